/-! ===== THE MODEL, 10: what there is (printed by a program of gen/) ===== -/
set_option maxRecDepth 100000
section M10
variable {G : zG} {h : zH} {o : Nat} {P : pRow}
/-- the rows and the places of the model that nothing is told of in between -/
def scr (o : Nat) : List Nat := [o + 2, o + 3, o + 6, o + 7, o + 8, o + 9, o + 10, o + 11, o + 13, o + 14]
def zSc (o : Nat) : zH → zH → Prop := zCh [o + 2, o + 3, o + 6, o + 7, o + 8, o + 9, o + 10, o + 11, o + 13, o + 14] o [0, 14, 19, 20, 21, 22]
def ma2 (p q : Prop) [Decidable p] [Decidable q] : Int := if ¬ p then 1 else if q then 0 else 2
abbrev ma1 (p : Prop) [Decidable p] : Int := ma2 p True
theorem ma2_ne {p q : Prop} [Decidable p] [Decidable q] (h : ¬ (p ∧ q)) : ma2 p q ≠ 0 := by
  unfold ma2
  by_cases hp : p
  · rw [if_neg (fun z => z hp), if_neg (fun hq => h ⟨hp, hq⟩)]; decide
  · rw [if_pos hp]; decide
theorem ma1_ne {p : Prop} [Decidable p] (h : ¬ p) : ma1 p ≠ 0 := ma2_ne (fun z => h z.1)
theorem ma2_iff {p q : Prop} [Decidable p] [Decidable q] : ma2 p q = 0 ↔ p ∧ q := by
  constructor
  · intro h; exact Decidable.byContradiction (fun z => ma2_ne z h)
  · rintro ⟨hp, hq⟩; unfold ma2; rw [if_neg (fun z => z hp), if_pos hq]
/-- told0 is set, nothing else -/
def zTd (o : Nat) (t : Int) (h h1 : zH) : Prop := zCh [] o [0] h h1 ∧ gI h1 o 0 = t
theorem zTd.go {o : Nat} {t : Int} {h h1 h2 : zH} {S ks : List Nat} (i : zTd o t h h1) (c : zCh S o ks h1 h2) (hS : ∀ q ∈ S, q ∈ [o + 2, o + 3, o + 6, o + 7, o + 8, o + 9, o + 10, o + 11, o + 13, o + 14]) (hk : ∀ q ∈ ks, q ∈ [14, 19, 20, 21, 22]) (h0 : 0 ∉ ks) : zSc o h h2 ∧ gI h2 o 0 = t :=
  ⟨(i.1.mono (by simp) (by simp)).tr (c.mono hS (fun q hq => List.mem_cons.mpr (Or.inr (hk q hq)))), (c.2 0 h0).trans i.2⟩
theorem zTd.go0 {o : Nat} {t : Int} {h h1 : zH} (i : zTd o t h h1) : zSc o h h1 ∧ gI h1 o 0 = t := i.go (zCh.rf (S := []) (ks := [])) (by simp) (by simp) (by simp)
/-- what a question answers: told0 is t; if it is 0, the answer is v -/
def zAn (o : Nat) (t v : Int) (h : zH) : zO → zH → Prop := zOkI (fun z h1 => (zSc o h h1 ∧ gI h1 o 0 = t) ∧ (t = 0 → z = v))
theorem gI_put_s {h : zH} {a k : Nat} {x : Int} (hx : jr x) : gI (sI h a k (jI x)) a k = x := by rw [gI_put hx, if_pos ⟨rfl, rfl⟩]
theorem c_X4_mayTwo (hM : MdL h o) (p q : Prop) [Decidable p] [Decidable q] : zM G zX4_mayTwo 0 [.ref o, .int (jI (bI p)), .int (jI (bI q))] h (zOkI (fun z h1 => z = bI (p ∧ q) ∧ zTd o (ma2 p q) h h1)) := by
  refine zM.ofV (lv := [(0, .ref o), (1, .int (jI (bI p))), (2, .int (jI (bI q)))]) (by decide +kernel) (Nat.le_of_ble_eq_true rfl) rfl ?_
  refine zV_aload_n 0 dX4_mayTwo_0 rfl rfl (Or.inr ⟨_, rfl⟩) ?_
  refine zV_iload_n 1 dX4_mayTwo_1 rfl rfl ?_
  by_cases c1 : p
  · refine zV.eq (show (bI p : Int) = 1 from bI_t c1) ?_
    refine zV_jif_ne 9 dX4_mayTwo_2 rfl ⟨by decide, by decide⟩ (fun _ => ?_) (fun c_ => absurd c_ (by decide))
    refine zV_iload_n 2 dX4_mayTwo_9 rfl rfl ?_
    by_cases c2 : q
    · refine zV.eq (show (bI q : Int) = 1 from bI_t c2) ?_
      refine zV_jif_eq 17 dX4_mayTwo_10 rfl ⟨by decide, by decide⟩ (fun c_ => absurd c_ (by decide)) (fun _ => ?_)
      refine zV_iconst (n := 0) dX4_mayTwo_13 ?_
      refine zV_goto 18 dX4_mayTwo_14 rfl ?_
      refine zV_putI (x := jI (0)) (ci := 3) (q := (RX4, TX4, 27)) 0 dX4_mayTwo_18 q1917 (md_ge hM) (md_k hM) rfl (by decide) rfl (fun _ _ => rfl) rfl rfl (by decide) ?_
      refine zV_aload_n 0 dX4_mayTwo_21 rfl rfl (Or.inr ⟨_, rfl⟩) ?_
      refine zV_tgetf (ci := 3) (q := (RX4, TX4, 27)) 0 dX4_mayTwo_22 q1917 (md_k hM) rfl (by decide) rfl (by decide) ?_
      refine zV.eq (show ((zI (sI h o 0 (jI (0))) o 0).toInt : Int) = 0 from gI_put_s ⟨by decide, by decide⟩) ?_
      refine zV_jif_ne 32 dX4_mayTwo_25 rfl ⟨by decide, by decide⟩ (fun c_ => absurd c_ (by decide)) (fun _ => ?_)
      refine zV_iconst (n := 1) dX4_mayTwo_28 ?_
      refine zV_goto 33 dX4_mayTwo_29 rfl ?_
      exact zV_ireturn dX4_mayTwo_33 rfl rfl ⟨1, rfl, (bI_t ⟨c1, c2⟩).symm, zCh.rf.puto (by simp), by rw [gI_put_s ⟨by decide, by decide⟩]; exact (ma2_iff.mpr ⟨c1, c2⟩).symm⟩
    · refine zV.eq (show (bI q : Int) = 0 from bI_f c2) ?_
      refine zV_jif_eq 17 dX4_mayTwo_10 rfl ⟨by decide, by decide⟩ (fun _ => ?_) (fun c_ => absurd c_ (by decide))
      refine zV_iconst (n := 2) dX4_mayTwo_17 ?_
      refine zV_putI (x := jI (2)) (ci := 3) (q := (RX4, TX4, 27)) 0 dX4_mayTwo_18 q1917 (md_ge hM) (md_k hM) rfl (by decide) rfl (fun _ _ => rfl) rfl rfl (by decide) ?_
      refine zV_aload_n 0 dX4_mayTwo_21 rfl rfl (Or.inr ⟨_, rfl⟩) ?_
      refine zV_tgetf (ci := 3) (q := (RX4, TX4, 27)) 0 dX4_mayTwo_22 q1917 (md_k hM) rfl (by decide) rfl (by decide) ?_
      refine zV.eq (show ((zI (sI h o 0 (jI (2))) o 0).toInt : Int) = 2 from gI_put_s ⟨by decide, by decide⟩) ?_
      refine zV_jif_ne 32 dX4_mayTwo_25 rfl ⟨by decide, by decide⟩ (fun _ => ?_) (fun c_ => absurd c_ (by decide))
      refine zV_iconst (n := 0) dX4_mayTwo_32 ?_
      exact zV_ireturn dX4_mayTwo_33 rfl rfl ⟨0, rfl, (bI_f (fun z => c2 z.2)).symm, zCh.rf.puto (by simp), by rw [gI_put_s ⟨by decide, by decide⟩]; exact by unfold ma2; rw [if_neg (fun z => z c1), if_neg c2]⟩
  · refine zV.eq (show (bI p : Int) = 0 from bI_f c1) ?_
    refine zV_jif_ne 9 dX4_mayTwo_2 rfl ⟨by decide, by decide⟩ (fun c_ => absurd c_ (by decide)) (fun _ => ?_)
    refine zV_iconst (n := 1) dX4_mayTwo_5 ?_
    refine zV_goto 18 dX4_mayTwo_6 rfl ?_
    refine zV_putI (x := jI (1)) (ci := 3) (q := (RX4, TX4, 27)) 0 dX4_mayTwo_18 q1917 (md_ge hM) (md_k hM) rfl (by decide) rfl (fun _ _ => rfl) rfl rfl (by decide) ?_
    refine zV_aload_n 0 dX4_mayTwo_21 rfl rfl (Or.inr ⟨_, rfl⟩) ?_
    refine zV_tgetf (ci := 3) (q := (RX4, TX4, 27)) 0 dX4_mayTwo_22 q1917 (md_k hM) rfl (by decide) rfl (by decide) ?_
    refine zV.eq (show ((zI (sI h o 0 (jI (1))) o 0).toInt : Int) = 1 from gI_put_s ⟨by decide, by decide⟩) ?_
    refine zV_jif_ne 32 dX4_mayTwo_25 rfl ⟨by decide, by decide⟩ (fun _ => ?_) (fun c_ => absurd c_ (by decide))
    refine zV_iconst (n := 0) dX4_mayTwo_32 ?_
    exact zV_ireturn dX4_mayTwo_33 rfl rfl ⟨0, rfl, (bI_f (fun z => c1 z.1)).symm, zCh.rf.puto (by simp), by rw [gI_put_s ⟨by decide, by decide⟩]; exact (if_pos c1).symm⟩
theorem c_X4_mayOne (hM : MdL h o) (p : Prop) [Decidable p] : zM G zX4_mayOne 1 [.ref o, .int (jI (bI p))] h (zOkI (fun z h1 => z = bI p ∧ zTd o (ma1 p) h h1)) := by
  refine zM.ofV (lv := [(0, .ref o), (1, .int (jI (bI p)))]) (by decide +kernel) (Nat.le_of_ble_eq_true rfl) rfl ?_
  refine zV_aload_n 0 dX4_mayOne_0 rfl rfl (Or.inr ⟨_, rfl⟩) ?_
  refine zV_iload_n 1 dX4_mayOne_1 rfl rfl ?_
  refine zV_iconst (n := 1) dX4_mayOne_2 ?_
  refine zV.eq (show (1 : Int) = bI True from rfl) ?_
  refine zc_V (y' := zX4_mayTwo) (as := [.int (jI (bI p)), .int (jI (bI True))]) (rest := []) (ci := 3) (q := (RX4, TX4, 27)) bX4_mayTwo dX4_mayOne_3 q2145 q2147 qs70 (md_k hM) rfl (c_X4_mayTwo hM p True) rfl rfl (by decide) (Nat.le_of_ble_eq_true rfl) (by decide) (zk_I (fun z h1 ⟨ez, i0⟩ _ => ?_))
  subst ez
  refine zV.eq (show (bI (p ∧ True) : Int) = bI p from bI_congr ⟨And.left, fun z => ⟨z, trivial⟩⟩) ?_
  exact zV_ireturn dX4_mayOne_6 rfl bI_nar ⟨_, rfl, rfl, i0⟩
theorem c_X4_isSetting (a : Int) (ha : jr a) : zM G zX4_isSetting 1 [.int (jI a)] h (zJ h (some (.int (jI (bI (0 ≤ a ∧ a ≤ 4)))))) := by
  refine zM.ofV (lv := [(0, .int (jI (a)))]) (by decide +kernel) (Nat.le_of_ble_eq_true rfl) rfl ?_
  refine zV_iload_n 0 dX4_isSetting_0 rfl rfl ?_
  refine zV_iconst (n := 0) dX4_isSetting_1 ?_
  refine zV_iconst (n := 4) dX4_isSetting_2 ?_
  refine zc_S (y' := zX4_isIn) (as := [.int (jI (a)), .int (jI (0)), .int (jI (4))]) (rest := []) bX4_isIn dX4_isSetting_3 q2012 q2013 (c_X4_isIn (a) (0) (4) ha ⟨by decide, by decide⟩ ⟨by decide, by decide⟩) rfl rfl (by decide) (Nat.le_of_ble_eq_true rfl) (zk_J1 ?_)
  exact zV_ireturn dX4_isSetting_6 rfl bI_nar ⟨rfl, rfl⟩
theorem c_X4_isPrice (a : Int) (ha : jr a) : zM G zX4_isPrice 1 [.int (jI a)] h (zJ h (some (.int (jI (bI (0 ≤ a ∧ a ≤ 30)))))) := by
  refine zM.ofV (lv := [(0, .int (jI (a)))]) (by decide +kernel) (Nat.le_of_ble_eq_true rfl) rfl ?_
  refine zV_iload_n 0 dX4_isPrice_0 rfl rfl ?_
  refine zV_iconst (n := 0) dX4_isPrice_1 ?_
  refine zV_jbipush dX4_isPrice_2 (by decide) ?_
  refine zc_S (y' := zX4_isIn) (as := [.int (jI (a)), .int (jI (0)), .int (jI (30))]) (rest := []) bX4_isIn dX4_isPrice_4 q2012 q2013 (c_X4_isIn (a) (0) (30) ha ⟨by decide, by decide⟩ ⟨by decide, by decide⟩) rfl rfl (by decide) (Nat.le_of_ble_eq_true rfl) (zk_J1 ?_)
  exact zV_ireturn dX4_isPrice_7 rfl bI_nar ⟨rfl, rfl⟩
theorem c_X4_isKind (a : Int) (ha : jr a) : zM G zX4_isKind 1 [.int (jI a)] h (zJ h (some (.int (jI (bI (0 ≤ a ∧ a ≤ 3)))))) := by
  refine zM.ofV (lv := [(0, .int (jI (a)))]) (by decide +kernel) (Nat.le_of_ble_eq_true rfl) rfl ?_
  refine zV_iload_n 0 dX4_isKind_0 rfl rfl ?_
  refine zV_iconst (n := 0) dX4_isKind_1 ?_
  refine zV_iconst (n := 3) dX4_isKind_2 ?_
  refine zc_S (y' := zX4_isIn) (as := [.int (jI (a)), .int (jI (0)), .int (jI (3))]) (rest := []) bX4_isIn dX4_isKind_3 q2012 q2013 (c_X4_isIn (a) (0) (3) ha ⟨by decide, by decide⟩ ⟨by decide, by decide⟩) rfl rfl (by decide) (Nat.le_of_ble_eq_true rfl) (zk_J1 ?_)
  exact zV_ireturn dX4_isKind_6 rfl bI_nar ⟨rfl, rfl⟩
theorem c_X4_isPlace (hM : MdL h o) (hP : gI h (o + 1) = P) (hw : pWf P) (a : Int) (ha : jr a) : zM G zX4_isPlace 1 [.ref o, .int (jI a)] h (zJ h (some (.int (jI (bI (0 ≤ a ∧ a < P 0)))))) := by
  obtain ⟨w0, w0b, w1, w1b, w2, w2b, w3, w3b, w4, w4b, w5, w5b, wp, wl, wn⟩ := id hw
  refine zM.ofV (lv := [(0, .ref o), (1, .int (jI (a)))]) (by decide +kernel) (Nat.le_of_ble_eq_true rfl) rfl ?_
  refine zV_iload_n 1 dX4_isPlace_0 rfl rfl ?_
  refine zV_iconst (n := 0) dX4_isPlace_1 ?_
  refine zV_aload_n 0 dX4_isPlace_2 rfl rfl (Or.inr ⟨_, rfl⟩) ?_
  refine zc_V (y' := zX4_many) (as := []) (rest := [.int (jI (0)), .int (jI (a))]) (ci := 3) (q := (RX4, TX4, 27)) bX4_many dX4_isPlace_3 q2042 q2044 qs50 (md_k hM) rfl (c_X4_many hM hP) rfl rfl (by decide) (Nat.le_of_ble_eq_true rfl) (by decide) (zk_J1 ?_)
  refine zV_iconst (n := 1) dX4_isPlace_6 ?_
  refine zV_jsub dX4_isPlace_7 ?_
  refine zc_S (y' := zX4_isIn) (as := [.int (jI (a)), .int (jI (0)), .int (jI ((P 0) - 1))]) (rest := []) bX4_isIn dX4_isPlace_8 q2012 q2013 (c_X4_isIn (a) (0) (P 0 - 1) ha ⟨by decide, by decide⟩ ⟨by omega, by omega⟩) rfl rfl (by decide) (Nat.le_of_ble_eq_true rfl) (zk_J1 ?_)
  exact zV_ireturn dX4_isPlace_11 rfl bI_nar ⟨by rw [bI_congr (show (0 ≤ a ∧ a ≤ P 0 - 1) ↔ (0 ≤ a ∧ a < P 0) by omega)], rfl⟩
def pinN (P : pRow) : Int := fU (fun k a => a + P (k + 107)) (P 0).toNat 0 0
def wCd (P : pRow) : Int := fU (fun k a => a + bI (0 < candN P k)) (P 0).toNat 0 0
def wCp (P : pRow) : Int := fU (fun k a => a + bI (0 < loN P k)) (P 0).toNat 0 0
def aCp (P : pRow) : Int := fU (fun k a => a + nCp P k) (P 0).toNat 0 0
def aLo (P : pRow) : Nat := fU (fun k a => max a (loN P k)) (P 0).toNat 0 0
theorem c_X4_pinMany (hM : MdL h o) (hP : gI h (o + 1) = P) (hw : pWf P) : zM G zX4_pinMany 1 [.ref o] h (zJ h (some (.int (jI (pinN P))))) := by
  obtain ⟨w0, w0b, w1, w1b, w2, w2b, w3, w3b, w4, w4b, w5, w5b, wp, wl, wn⟩ := id hw
  refine zM.ofV (lv := [(0, .ref o)]) (by decide +kernel) (Nat.le_of_ble_eq_true rfl) rfl ?_
  refine zV_iconst (n := 0) dX4_pinMany_0 ?_
  refine zV_istore_n (lv' := [(0, .ref o), (1, .int (jI (0)))]) 1 dX4_pinMany_1 rfl (by decide) rfl rfl ?_
  refine zV_iconst (n := 0) dX4_pinMany_2 ?_
  refine zV_istore_n (lv' := [(0, .ref o), (1, .int (jI (0))), (2, .int (jI (0)))]) 2 dX4_pinMany_3 rfl (by decide) rfl rfl ?_
  have key : ∀ f p : Nat, ∀ a : Int, (p : Int) + f = P 0 → zV G zX4_pinMany 1 4 [(0, .ref o), (1, .int (jI ((a : Int)))), (2, .int (jI (((p : Nat) : Int))))] [] h (zJ h (some (.int (jI (fU (fun k a => a + P (k + 107)) f p a))))) := by
    intro f
    induction f with
    | zero =>
      intro p a h1
      refine zV_iload_n 2 dX4_pinMany_4 rfl rfl ?_
      refine zV_aload_n 0 dX4_pinMany_5 rfl rfl (Or.inr ⟨_, rfl⟩) ?_
      refine zc_V (y' := zX4_many) (as := []) (rest := [.int (jI (((p : Nat) : Int)))]) (ci := 3) (q := (RX4, TX4, 27)) bX4_many dX4_pinMany_6 q2042 q2044 qs50 (md_k hM) rfl (c_X4_many hM hP) rfl rfl (by decide) (Nat.le_of_ble_eq_true rfl) (by decide) (zk_J1 ?_)
      refine zV_jcmp_ge 30 dX4_pinMany_9 rfl ⟨by omega, by omega⟩ (by rw [← hP]; exact jr_toInt _) (fun c1 => ?_) (fun c_ => absurd c_ (by omega))
      refine zV_iload_n 1 dX4_pinMany_30 rfl rfl ?_
      exact zV_ireturn dX4_pinMany_31 rfl rfl ⟨rfl, rfl⟩
    | succ f ih =>
      intro p a h1
      refine zV_iload_n 2 dX4_pinMany_4 rfl rfl ?_
      refine zV_aload_n 0 dX4_pinMany_5 rfl rfl (Or.inr ⟨_, rfl⟩) ?_
      refine zc_V (y' := zX4_many) (as := []) (rest := [.int (jI (((p : Nat) : Int)))]) (ci := 3) (q := (RX4, TX4, 27)) bX4_many dX4_pinMany_6 q2042 q2044 qs50 (md_k hM) rfl (c_X4_many hM hP) rfl rfl (by decide) (Nat.le_of_ble_eq_true rfl) (by decide) (zk_J1 ?_)
      refine zV_jcmp_ge 30 dX4_pinMany_9 rfl ⟨by omega, by omega⟩ (by rw [← hP]; exact jr_toInt _) (fun c_ => absurd c_ (by omega)) (fun c1 => ?_)
      refine zV_iload_n 1 dX4_pinMany_12 rfl rfl ?_
      refine zV_aload_n 0 dX4_pinMany_13 rfl rfl (Or.inr ⟨_, rfl⟩) ?_
      refine zV_getf (v := .ref (o + 1)) (ci := 3) (q := (RX4, TX4, 27)) 1 dX4_pinMany_14 q1918 (md_k hM) rfl (by decide) (congrArg va_rf (md_r_s hM)) (by decide) ?_
      refine zV_jbipush dX4_pinMany_17 (by decide) ?_
      refine zV_iload_n 2 dX4_pinMany_19 rfl rfl ?_
      refine zV_jadd dX4_pinMany_20 ?_
      refine zV_tiald (p + 107) 171 dX4_pinMany_21 (md_k_s hM) (md_z_s hM) (by omega) (by omega) (by omega) ?_
      refine zV.eq (congrFun hP (p + 107)) ?_
      refine zV_jadd dX4_pinMany_22 ?_
      refine zV_istore_n (lv' := [(0, .ref o), (1, .int (jI ((a : Int) + (P (p + 107))))), (2, .int (jI (((p : Nat) : Int))))]) 1 dX4_pinMany_23 rfl (by decide) rfl rfl ?_
      refine zV_jinc (lv' := [(0, .ref o), (1, .int (jI ((a : Int) + (P (p + 107))))), (2, .int (jI (((p : Nat) : Int) + 1)))]) dX4_pinMany_24 rfl (by decide) rfl rfl ?_
      refine zV_goto 4 dX4_pinMany_27 rfl ?_
      rw [show (((p : Nat) : Int) + 1 : Int) = ((p + 1 : Nat) : Int) from by omega]
      exact ih (p + 1) _ (by omega)
  exact key (P 0).toNat 0 0 (by omega)
theorem candN_b {P : pRow} (hw : pWf P) (p : Nat) (hp : p < 64) : jr (candN P p) := by
  have h1 := lkN_le P p (pE P p) p
  have h2 := hw.2.2.2.2.1
  have h3 := hw.2.2.2.2.2.1
  unfold candN chainN
  constructor <;> omega
theorem c_X4_withCandidates (hM : MdL h o) (hP : gI h (o + 1) = P) (hw : pWf P) : zM G zX4_withCandidates 4 [.ref o] h (zJ h (some (.int (jI (wCd P))))) := by
  obtain ⟨w0, w0b, w1, w1b, w2, w2b, w3, w3b, w4, w4b, w5, w5b, wp, wl, wn⟩ := id hw
  refine zM.ofV (lv := [(0, .ref o)]) (by decide +kernel) (Nat.le_of_ble_eq_true rfl) rfl ?_
  refine zV_iconst (n := 0) dX4_withCandidates_0 ?_
  refine zV_istore_n (lv' := [(0, .ref o), (1, .int (jI (0)))]) 1 dX4_withCandidates_1 rfl (by decide) rfl rfl ?_
  refine zV_iconst (n := 0) dX4_withCandidates_2 ?_
  refine zV_istore_n (lv' := [(0, .ref o), (1, .int (jI (0))), (2, .int (jI (0)))]) 2 dX4_withCandidates_3 rfl (by decide) rfl rfl ?_
  have key : ∀ f p : Nat, ∀ a : Int, (p : Int) + f = P 0 → zV G zX4_withCandidates 4 4 [(0, .ref o), (1, .int (jI ((a : Int)))), (2, .int (jI (((p : Nat) : Int))))] [] h (zJ h (some (.int (jI (fU (fun k a => a + bI (0 < candN P k)) f p a))))) := by
    intro f
    induction f with
    | zero =>
      intro p a h1
      refine zV_iload_n 2 dX4_withCandidates_4 rfl rfl ?_
      refine zV_aload_n 0 dX4_withCandidates_5 rfl rfl (Or.inr ⟨_, rfl⟩) ?_
      refine zc_V (y' := zX4_many) (as := []) (rest := [.int (jI (((p : Nat) : Int)))]) (ci := 3) (q := (RX4, TX4, 27)) bX4_many dX4_withCandidates_6 q2042 q2044 qs50 (md_k hM) rfl (c_X4_many hM hP) rfl rfl (by decide) (Nat.le_of_ble_eq_true rfl) (by decide) (zk_J1 ?_)
      refine zV_jcmp_ge 37 dX4_withCandidates_9 rfl ⟨by omega, by omega⟩ (by rw [← hP]; exact jr_toInt _) (fun c1 => ?_) (fun c_ => absurd c_ (by omega))
      refine zV_iload_n 1 dX4_withCandidates_37 rfl rfl ?_
      exact zV_ireturn dX4_withCandidates_38 rfl rfl ⟨rfl, rfl⟩
    | succ f ih =>
      intro p a h1
      refine zV_iload_n 2 dX4_withCandidates_4 rfl rfl ?_
      refine zV_aload_n 0 dX4_withCandidates_5 rfl rfl (Or.inr ⟨_, rfl⟩) ?_
      refine zc_V (y' := zX4_many) (as := []) (rest := [.int (jI (((p : Nat) : Int)))]) (ci := 3) (q := (RX4, TX4, 27)) bX4_many dX4_withCandidates_6 q2042 q2044 qs50 (md_k hM) rfl (c_X4_many hM hP) rfl rfl (by decide) (Nat.le_of_ble_eq_true rfl) (by decide) (zk_J1 ?_)
      refine zV_jcmp_ge 37 dX4_withCandidates_9 rfl ⟨by omega, by omega⟩ (by rw [← hP]; exact jr_toInt _) (fun c_ => absurd c_ (by omega)) (fun c1 => ?_)
      refine zV_iload_n 1 dX4_withCandidates_12 rfl rfl ?_
      refine zV_aload_n 0 dX4_withCandidates_13 rfl rfl (Or.inr ⟨_, rfl⟩) ?_
      refine zV_iload_n 2 dX4_withCandidates_14 rfl rfl ?_
      obtain ⟨hcn1, hcn2⟩ := candN_b hw p (by omega)
      refine zc_V (y' := zX4_candidateMany) (as := [.int (jI (((p : Nat) : Int)))]) (rest := [.int (jI ((a : Int)))]) (ci := 3) (q := (RX4, TX4, 27)) bX4_candidateMany dX4_withCandidates_15 q2153 q2155 qs72 (md_k hM) rfl (c_X4_candidateMany hM hP hw p (by omega)) rfl rfl (by decide) (Nat.le_of_ble_eq_true rfl) (by decide) (zk_J1 ?_)
      by_cases c2 : 0 < candN P p
      · refine zV_jif_le 25 dX4_withCandidates_18 rfl ⟨by omega, by omega⟩ (fun c_ => absurd c_ (by omega)) (fun _ => ?_)
        refine zV_iconst (n := 1) dX4_withCandidates_21 ?_
        refine zV_goto 26 dX4_withCandidates_22 rfl ?_
        refine zV.eq (show (1 : Int) = bI (0 < candN P p) from (bI_t c2).symm) ?_
        refine zc_S (y' := zX4_bit) (as := [.int (jI (bI (0 < candN P p)))]) (rest := [.int (jI ((a : Int)))]) bX4_bit dX4_withCandidates_26 q2180 q2181 (c_X4_bit _) rfl rfl (by decide) (Nat.le_of_ble_eq_true rfl) (zk_J1 ?_)
        refine zV_jadd dX4_withCandidates_29 ?_
        refine zV_istore_n (lv' := [(0, .ref o), (1, .int (jI ((a : Int) + (bI (0 < candN P p))))), (2, .int (jI (((p : Nat) : Int))))]) 1 dX4_withCandidates_30 rfl (by decide) rfl rfl ?_
        refine zV_jinc (lv' := [(0, .ref o), (1, .int (jI ((a : Int) + (bI (0 < candN P p))))), (2, .int (jI (((p : Nat) : Int) + 1)))]) dX4_withCandidates_31 rfl (by decide) rfl rfl ?_
        refine zV_goto 4 dX4_withCandidates_34 rfl ?_
        rw [show (((p : Nat) : Int) + 1 : Int) = ((p + 1 : Nat) : Int) from by omega]
        exact ih (p + 1) _ (by omega)
      · refine zV_jif_le 25 dX4_withCandidates_18 rfl ⟨by omega, by omega⟩ (fun _ => ?_) (fun c_ => absurd c_ (by omega))
        refine zV_iconst (n := 0) dX4_withCandidates_25 ?_
        refine zV.eq (show (0 : Int) = bI (0 < candN P p) from (bI_f c2).symm) ?_
        refine zc_S (y' := zX4_bit) (as := [.int (jI (bI (0 < candN P p)))]) (rest := [.int (jI ((a : Int)))]) bX4_bit dX4_withCandidates_26 q2180 q2181 (c_X4_bit _) rfl rfl (by decide) (Nat.le_of_ble_eq_true rfl) (zk_J1 ?_)
        refine zV_jadd dX4_withCandidates_29 ?_
        refine zV_istore_n (lv' := [(0, .ref o), (1, .int (jI ((a : Int) + (bI (0 < candN P p))))), (2, .int (jI (((p : Nat) : Int))))]) 1 dX4_withCandidates_30 rfl (by decide) rfl rfl ?_
        refine zV_jinc (lv' := [(0, .ref o), (1, .int (jI ((a : Int) + (bI (0 < candN P p))))), (2, .int (jI (((p : Nat) : Int) + 1)))]) dX4_withCandidates_31 rfl (by decide) rfl rfl ?_
        refine zV_goto 4 dX4_withCandidates_34 rfl ?_
        rw [show (((p : Nat) : Int) + 1 : Int) = ((p + 1 : Nat) : Int) from by omega]
        exact ih (p + 1) _ (by omega)
  exact key (P 0).toNat 0 0 (by omega)
theorem c_X4_withCopies (hM : MdL h o) (hP : gI h (o + 1) = P) (hw : pWf P) : zM G zX4_withCopies 5 [.ref o] h (zOkI (fun z h1 => z = wCp P ∧ zIo [o + 6] h h1 ∧ LC P (gI h1 (o + 6)))) := by
  obtain ⟨w0, w0b, w1, w1b, w2, w2b, w3, w3b, w4, w4b, w5, w5b, wp, wl, wn⟩ := id hw
  refine zM.ofV (lv := [(0, .ref o)]) (by decide +kernel) (Nat.le_of_ble_eq_true rfl) rfl ?_
  refine zV_aload_n 0 dX4_withCopies_0 rfl rfl (Or.inr ⟨_, rfl⟩) ?_
  refine zc_V (y' := zX4_laysCopies) (as := []) (rest := []) (ci := 3) (q := (RX4, TX4, 27)) bX4_laysCopies dX4_withCopies_1 q2190 q2192 qs79 (md_k hM) rfl (c_X4_laysCopies hM hP hw) rfl rfl (by decide) (Nat.le_of_ble_eq_true rfl) (by decide) (zk_V (fun h1 ⟨j1, j2⟩ _ => ?_))
  have hM1 := hM.io j1
  have hP1 : gI h1 (o + 1) = P := (j1.row (by simp)).trans hP
  refine zV_iconst (n := 0) dX4_withCopies_4 ?_
  refine zV_istore_n (lv' := [(0, .ref o), (1, .int (jI (0)))]) 1 dX4_withCopies_5 rfl (by decide) rfl rfl ?_
  refine zV_iconst (n := 0) dX4_withCopies_6 ?_
  refine zV_istore_n (lv' := [(0, .ref o), (1, .int (jI (0))), (2, .int (jI (0)))]) 2 dX4_withCopies_7 rfl (by decide) rfl rfl ?_
  have key : ∀ f p : Nat, ∀ a : Int, (p : Int) + f = P 0 → zV G zX4_withCopies 5 8 [(0, .ref o), (1, .int (jI ((a : Int)))), (2, .int (jI (((p : Nat) : Int))))] [] h1 (zOkI (fun z h2 => z = fU (fun k a => a + bI (0 < loN P k)) f p a ∧ zIo [o + 6] h h2 ∧ LC P (gI h2 (o + 6)))) := by
    intro f
    induction f with
    | zero =>
      intro p a h1
      refine zV_iload_n 2 dX4_withCopies_8 rfl rfl ?_
      refine zV_aload_n 0 dX4_withCopies_9 rfl rfl (Or.inr ⟨_, rfl⟩) ?_
      refine zc_V (y' := zX4_many) (as := []) (rest := [.int (jI (((p : Nat) : Int)))]) (ci := 3) (q := (RX4, TX4, 27)) bX4_many dX4_withCopies_10 q2042 q2044 qs50 (md_k hM1) rfl (c_X4_many hM1 hP1) rfl rfl (by decide) (Nat.le_of_ble_eq_true rfl) (by decide) (zk_J1 ?_)
      refine zV_jcmp_ge 41 dX4_withCopies_13 rfl ⟨by omega, by omega⟩ (by rw [← hP1]; exact jr_toInt _) (fun c1 => ?_) (fun c_ => absurd c_ (by omega))
      refine zV_iload_n 1 dX4_withCopies_41 rfl rfl ?_
      exact zV_ireturn dX4_withCopies_42 rfl rfl ⟨_, rfl, rfl, j1, j2⟩
    | succ f ih =>
      intro p a h1
      refine zV_iload_n 2 dX4_withCopies_8 rfl rfl ?_
      refine zV_aload_n 0 dX4_withCopies_9 rfl rfl (Or.inr ⟨_, rfl⟩) ?_
      refine zc_V (y' := zX4_many) (as := []) (rest := [.int (jI (((p : Nat) : Int)))]) (ci := 3) (q := (RX4, TX4, 27)) bX4_many dX4_withCopies_10 q2042 q2044 qs50 (md_k hM1) rfl (c_X4_many hM1 hP1) rfl rfl (by decide) (Nat.le_of_ble_eq_true rfl) (by decide) (zk_J1 ?_)
      refine zV_jcmp_ge 41 dX4_withCopies_13 rfl ⟨by omega, by omega⟩ (by rw [← hP1]; exact jr_toInt _) (fun c_ => absurd c_ (by omega)) (fun c1 => ?_)
      refine zV_iload_n 1 dX4_withCopies_16 rfl rfl ?_
      refine zV_aload_n 0 dX4_withCopies_17 rfl rfl (Or.inr ⟨_, rfl⟩) ?_
      refine zV_iload_n 2 dX4_withCopies_18 rfl rfl ?_
      refine zc_V (y' := zX4_longestOf) (as := [.int (jI (((p : Nat) : Int)))]) (rest := [.int (jI ((a : Int)))]) (ci := 3) (q := (RX4, TX4, 27)) bX4_longestOf dX4_withCopies_19 q2206 q2208 qs83 (md_k hM1) rfl (c_X4_longestOf hM1 hP1 hw j2 p (by omega)) rfl rfl (by decide) (Nat.le_of_ble_eq_true rfl) (by decide) (zk_J1 ?_)
      have hlo := loN_le hw p
      by_cases c2 : 0 < loN P p
      · refine zV_jif_le 29 dX4_withCopies_22 rfl ⟨by omega, by omega⟩ (fun c_ => absurd c_ (by omega)) (fun _ => ?_)
        refine zV_iconst (n := 1) dX4_withCopies_25 ?_
        refine zV_goto 30 dX4_withCopies_26 rfl ?_
        refine zV.eq (show (1 : Int) = bI (0 < loN P p) from (bI_t c2).symm) ?_
        refine zc_S (y' := zX4_bit) (as := [.int (jI (bI (0 < loN P p)))]) (rest := [.int (jI ((a : Int)))]) bX4_bit dX4_withCopies_30 q2180 q2181 (c_X4_bit _) rfl rfl (by decide) (Nat.le_of_ble_eq_true rfl) (zk_J1 ?_)
        refine zV_jadd dX4_withCopies_33 ?_
        refine zV_istore_n (lv' := [(0, .ref o), (1, .int (jI ((a : Int) + (bI (0 < loN P p))))), (2, .int (jI (((p : Nat) : Int))))]) 1 dX4_withCopies_34 rfl (by decide) rfl rfl ?_
        refine zV_jinc (lv' := [(0, .ref o), (1, .int (jI ((a : Int) + (bI (0 < loN P p))))), (2, .int (jI (((p : Nat) : Int) + 1)))]) dX4_withCopies_35 rfl (by decide) rfl rfl ?_
        refine zV_goto 8 dX4_withCopies_38 rfl ?_
        rw [show (((p : Nat) : Int) + 1 : Int) = ((p + 1 : Nat) : Int) from by omega]
        exact ih (p + 1) _ (by omega)
      · refine zV_jif_le 29 dX4_withCopies_22 rfl ⟨by omega, by omega⟩ (fun _ => ?_) (fun c_ => absurd c_ (by omega))
        refine zV_iconst (n := 0) dX4_withCopies_29 ?_
        refine zV.eq (show (0 : Int) = bI (0 < loN P p) from (bI_f c2).symm) ?_
        refine zc_S (y' := zX4_bit) (as := [.int (jI (bI (0 < loN P p)))]) (rest := [.int (jI ((a : Int)))]) bX4_bit dX4_withCopies_30 q2180 q2181 (c_X4_bit _) rfl rfl (by decide) (Nat.le_of_ble_eq_true rfl) (zk_J1 ?_)
        refine zV_jadd dX4_withCopies_33 ?_
        refine zV_istore_n (lv' := [(0, .ref o), (1, .int (jI ((a : Int) + (bI (0 < loN P p))))), (2, .int (jI (((p : Nat) : Int))))]) 1 dX4_withCopies_34 rfl (by decide) rfl rfl ?_
        refine zV_jinc (lv' := [(0, .ref o), (1, .int (jI ((a : Int) + (bI (0 < loN P p))))), (2, .int (jI (((p : Nat) : Int) + 1)))]) dX4_withCopies_35 rfl (by decide) rfl rfl ?_
        refine zV_goto 8 dX4_withCopies_38 rfl ?_
        rw [show (((p : Nat) : Int) + 1 : Int) = ((p + 1 : Nat) : Int) from by omega]
        exact ih (p + 1) _ (by omega)
  exact key (P 0).toNat 0 0 (by omega)
theorem c_X4_copiesAll (hM : MdL h o) (hP : gI h (o + 1) = P) (hw : pWf P) : zM G zX4_copiesAll 5 [.ref o] h (zOkI (fun z h1 => z = aCp P ∧ zIo [o + 6] h h1 ∧ LC P (gI h1 (o + 6)))) := by
  obtain ⟨w0, w0b, w1, w1b, w2, w2b, w3, w3b, w4, w4b, w5, w5b, wp, wl, wn⟩ := id hw
  refine zM.ofV (lv := [(0, .ref o)]) (by decide +kernel) (Nat.le_of_ble_eq_true rfl) rfl ?_
  refine zV_aload_n 0 dX4_copiesAll_0 rfl rfl (Or.inr ⟨_, rfl⟩) ?_
  refine zc_V (y' := zX4_laysCopies) (as := []) (rest := []) (ci := 3) (q := (RX4, TX4, 27)) bX4_laysCopies dX4_copiesAll_1 q2190 q2192 qs79 (md_k hM) rfl (c_X4_laysCopies hM hP hw) rfl rfl (by decide) (Nat.le_of_ble_eq_true rfl) (by decide) (zk_V (fun h1 ⟨j1, j2⟩ _ => ?_))
  have hM1 := hM.io j1
  have hP1 : gI h1 (o + 1) = P := (j1.row (by simp)).trans hP
  refine zV_iconst (n := 0) dX4_copiesAll_4 ?_
  refine zV_istore_n (lv' := [(0, .ref o), (1, .int (jI (0)))]) 1 dX4_copiesAll_5 rfl (by decide) rfl rfl ?_
  refine zV_iconst (n := 0) dX4_copiesAll_6 ?_
  refine zV_istore_n (lv' := [(0, .ref o), (1, .int (jI (0))), (2, .int (jI (0)))]) 2 dX4_copiesAll_7 rfl (by decide) rfl rfl ?_
  have key : ∀ f p : Nat, ∀ a : Int, (p : Int) + f = P 0 → zV G zX4_copiesAll 5 8 [(0, .ref o), (1, .int (jI ((a : Int)))), (2, .int (jI (((p : Nat) : Int))))] [] h1 (zOkI (fun z h2 => z = fU (fun k a => a + nCp P k) f p a ∧ zIo [o + 6] h h2 ∧ LC P (gI h2 (o + 6)))) := by
    intro f
    induction f with
    | zero =>
      intro p a h1
      refine zV_iload_n 2 dX4_copiesAll_8 rfl rfl ?_
      refine zV_aload_n 0 dX4_copiesAll_9 rfl rfl (Or.inr ⟨_, rfl⟩) ?_
      refine zc_V (y' := zX4_many) (as := []) (rest := [.int (jI (((p : Nat) : Int)))]) (ci := 3) (q := (RX4, TX4, 27)) bX4_many dX4_copiesAll_10 q2042 q2044 qs50 (md_k hM1) rfl (c_X4_many hM1 hP1) rfl rfl (by decide) (Nat.le_of_ble_eq_true rfl) (by decide) (zk_J1 ?_)
      refine zV_jcmp_ge 30 dX4_copiesAll_13 rfl ⟨by omega, by omega⟩ (by rw [← hP1]; exact jr_toInt _) (fun c1 => ?_) (fun c_ => absurd c_ (by omega))
      refine zV_iload_n 1 dX4_copiesAll_30 rfl rfl ?_
      exact zV_ireturn dX4_copiesAll_31 rfl rfl ⟨_, rfl, rfl, j1, j2⟩
    | succ f ih =>
      intro p a h1
      refine zV_iload_n 2 dX4_copiesAll_8 rfl rfl ?_
      refine zV_aload_n 0 dX4_copiesAll_9 rfl rfl (Or.inr ⟨_, rfl⟩) ?_
      refine zc_V (y' := zX4_many) (as := []) (rest := [.int (jI (((p : Nat) : Int)))]) (ci := 3) (q := (RX4, TX4, 27)) bX4_many dX4_copiesAll_10 q2042 q2044 qs50 (md_k hM1) rfl (c_X4_many hM1 hP1) rfl rfl (by decide) (Nat.le_of_ble_eq_true rfl) (by decide) (zk_J1 ?_)
      refine zV_jcmp_ge 30 dX4_copiesAll_13 rfl ⟨by omega, by omega⟩ (by rw [← hP1]; exact jr_toInt _) (fun c_ => absurd c_ (by omega)) (fun c1 => ?_)
      refine zV_iload_n 1 dX4_copiesAll_16 rfl rfl ?_
      refine zV_aload_n 0 dX4_copiesAll_17 rfl rfl (Or.inr ⟨_, rfl⟩) ?_
      refine zV_iload_n 2 dX4_copiesAll_18 rfl rfl ?_
      refine zc_V (y' := zX4_copiesAt) (as := [.int (jI (((p : Nat) : Int)))]) (rest := [.int (jI ((a : Int)))]) (ci := 3) (q := (RX4, TX4, 27)) bX4_copiesAt dX4_copiesAll_19 q2218 q2220 qs86 (md_k hM1) rfl (c_X4_copiesAt hM1 hP1 hw j2 p (by omega)) rfl rfl (by decide) (Nat.le_of_ble_eq_true rfl) (by decide) (zk_J1 ?_)
      refine zV_jadd dX4_copiesAll_22 ?_
      refine zV_istore_n (lv' := [(0, .ref o), (1, .int (jI ((a : Int) + (nCp P p)))), (2, .int (jI (((p : Nat) : Int))))]) 1 dX4_copiesAll_23 rfl (by decide) rfl rfl ?_
      refine zV_jinc (lv' := [(0, .ref o), (1, .int (jI ((a : Int) + (nCp P p)))), (2, .int (jI (((p : Nat) : Int) + 1)))]) dX4_copiesAll_24 rfl (by decide) rfl rfl ?_
      refine zV_goto 8 dX4_copiesAll_27 rfl ?_
      rw [show (((p : Nat) : Int) + 1 : Int) = ((p + 1 : Nat) : Int) from by omega]
      exact ih (p + 1) _ (by omega)
  exact key (P 0).toNat 0 0 (by omega)
theorem c_X4_longestAll (hM : MdL h o) (hP : gI h (o + 1) = P) (hw : pWf P) : zM G zX4_longestAll 5 [.ref o] h (zOkI (fun z h1 => z = ((aLo P : Nat) : Int) ∧ zIo [o + 6] h h1 ∧ LC P (gI h1 (o + 6)))) := by
  obtain ⟨w0, w0b, w1, w1b, w2, w2b, w3, w3b, w4, w4b, w5, w5b, wp, wl, wn⟩ := id hw
  refine zM.ofV (lv := [(0, .ref o)]) (by decide +kernel) (Nat.le_of_ble_eq_true rfl) rfl ?_
  refine zV_aload_n 0 dX4_longestAll_0 rfl rfl (Or.inr ⟨_, rfl⟩) ?_
  refine zc_V (y' := zX4_laysCopies) (as := []) (rest := []) (ci := 3) (q := (RX4, TX4, 27)) bX4_laysCopies dX4_longestAll_1 q2190 q2192 qs79 (md_k hM) rfl (c_X4_laysCopies hM hP hw) rfl rfl (by decide) (Nat.le_of_ble_eq_true rfl) (by decide) (zk_V (fun h1 ⟨j1, j2⟩ _ => ?_))
  have hM1 := hM.io j1
  have hP1 : gI h1 (o + 1) = P := (j1.row (by simp)).trans hP
  refine zV_iconst (n := 0) dX4_longestAll_4 ?_
  refine zV_istore_n (lv' := [(0, .ref o), (1, .int (jI (0)))]) 1 dX4_longestAll_5 rfl (by decide) rfl rfl ?_
  refine zV_iconst (n := 0) dX4_longestAll_6 ?_
  refine zV_istore_n (lv' := [(0, .ref o), (1, .int (jI (0))), (2, .int (jI (0)))]) 2 dX4_longestAll_7 rfl (by decide) rfl rfl ?_
  have key : ∀ f p : Nat, ∀ a : Nat, (p : Int) + f = P 0 → a ≤ 12 → zV G zX4_longestAll 5 8 [(0, .ref o), (1, .int (jI ((((a : Nat) : Int) : Int)))), (2, .int (jI (((p : Nat) : Int))))] [] h1 (zOkI (fun z h2 => z = ((fU (fun k a => max a (loN P k)) f p a : Nat) : Int) ∧ zIo [o + 6] h h2 ∧ LC P (gI h2 (o + 6)))) := by
    intro f
    induction f with
    | zero =>
      intro p a h1 h2
      refine zV_iload_n 2 dX4_longestAll_8 rfl rfl ?_
      refine zV_aload_n 0 dX4_longestAll_9 rfl rfl (Or.inr ⟨_, rfl⟩) ?_
      refine zc_V (y' := zX4_many) (as := []) (rest := [.int (jI (((p : Nat) : Int)))]) (ci := 3) (q := (RX4, TX4, 27)) bX4_many dX4_longestAll_10 q2042 q2044 qs50 (md_k hM1) rfl (c_X4_many hM1 hP1) rfl rfl (by decide) (Nat.le_of_ble_eq_true rfl) (by decide) (zk_J1 ?_)
      refine zV_jcmp_ge 32 dX4_longestAll_13 rfl ⟨by omega, by omega⟩ (by rw [← hP1]; exact jr_toInt _) (fun c1 => ?_) (fun c_ => absurd c_ (by omega))
      refine zV_iload_n 1 dX4_longestAll_32 rfl rfl ?_
      exact zV_ireturn dX4_longestAll_33 rfl rfl ⟨_, rfl, rfl, j1, j2⟩
    | succ f ih =>
      intro p a h1 h2
      refine zV_iload_n 2 dX4_longestAll_8 rfl rfl ?_
      refine zV_aload_n 0 dX4_longestAll_9 rfl rfl (Or.inr ⟨_, rfl⟩) ?_
      refine zc_V (y' := zX4_many) (as := []) (rest := [.int (jI (((p : Nat) : Int)))]) (ci := 3) (q := (RX4, TX4, 27)) bX4_many dX4_longestAll_10 q2042 q2044 qs50 (md_k hM1) rfl (c_X4_many hM1 hP1) rfl rfl (by decide) (Nat.le_of_ble_eq_true rfl) (by decide) (zk_J1 ?_)
      refine zV_jcmp_ge 32 dX4_longestAll_13 rfl ⟨by omega, by omega⟩ (by rw [← hP1]; exact jr_toInt _) (fun c_ => absurd c_ (by omega)) (fun c1 => ?_)
      refine zV_iload_n 1 dX4_longestAll_16 rfl rfl ?_
      refine zV_aload_n 0 dX4_longestAll_17 rfl rfl (Or.inr ⟨_, rfl⟩) ?_
      refine zV_iload_n 2 dX4_longestAll_18 rfl rfl ?_
      refine zc_V (y' := zX4_longestOf) (as := [.int (jI (((p : Nat) : Int)))]) (rest := [.int (jI ((((a : Nat) : Int) : Int)))]) (ci := 3) (q := (RX4, TX4, 27)) bX4_longestOf dX4_longestAll_19 q2206 q2208 qs83 (md_k hM1) rfl (c_X4_longestOf hM1 hP1 hw j2 p (by omega)) rfl rfl (by decide) (Nat.le_of_ble_eq_true rfl) (by decide) (zk_J1 ?_)
      have hlo := loN_le hw p
      refine zc_S (y' := zX4_larger) (as := [.int (jI ((((a : Nat) : Int) : Int))), .int (jI (((loN P p : Nat) : Int)))]) (rest := []) bX4_larger dX4_longestAll_22 q2169 q2170 (c_X4_larger _ _ ⟨by omega, by omega⟩ ⟨by omega, by omega⟩) rfl rfl (by decide) (Nat.le_of_ble_eq_true rfl) (zk_J1 ?_)
      refine zV.eq (show (max ((a : Nat) : Int) ((loN P p : Nat) : Int) : Int) = ((max a (loN P p) : Nat) : Int) from by omega) ?_
      refine zV_istore_n (lv' := [(0, .ref o), (1, .int (jI (((max a (loN P p) : Nat) : Int)))), (2, .int (jI (((p : Nat) : Int))))]) 1 dX4_longestAll_25 rfl (by decide) rfl rfl ?_
      refine zV_jinc (lv' := [(0, .ref o), (1, .int (jI (((max a (loN P p) : Nat) : Int)))), (2, .int (jI (((p : Nat) : Int) + 1)))]) dX4_longestAll_26 rfl (by decide) rfl rfl ?_
      refine zV_goto 8 dX4_longestAll_29 rfl ?_
      rw [show (((p : Nat) : Int) + 1 : Int) = ((p + 1 : Nat) : Int) from by omega]
      exact ih (p + 1) _ (by omega) (by omega)
  exact key (P 0).toNat 0 0 (by omega) (by omega)
end M10
