/-! ===== THE MODEL, 17: more changes (printed by a program of gen/) ===== -/
set_option maxRecDepth 100000
section M17
variable {G : zG} {h : zH} {o : Nat} {P : pRow}
def adL (P : pRow) (c : Int) : pRow := pSet (pSet (pSet P ((P 0).toNat + 43) c) ((P 0).toNat + 107) 0) 0 (P 0 + 1)
theorem pWf_adL {P : pRow} (hw : pWf P) (h64 : P 0 < 64) {c : Int} (hc : 0 ≤ c ∧ c < 26) : pWf (adL P c) := by
  obtain ⟨w0, w0b, w1, w1b, w2, w2b, w3, w3b, w4, w4b, w5, w5b, wp, wl, wn⟩ := hw
  have e0 : adL P c 0 = P 0 + 1 := pSet_s
  have e1 : ∀ k, k ≠ 0 → k < 43 → adL P c k = P k := fun k h1 h2 => by unfold adL; rw [pSet_ne h1, pSet_ne (by omega), pSet_ne (by omega)]
  refine ⟨by omega, by omega, ?_, ?_, ?_, ?_, ?_, ?_, ?_, ?_, ?_, ?_, fun k hk => ?_, fun j hj => ?_, fun j hj => ?_⟩
  any_goals (rw [e1 _ (by omega) (by omega)]; first | assumption | exact wp k hk)
  · rw [e0] at hj
    unfold adL
    rw [pSet_ne (by omega), pSet_ne (by omega)]
    by_cases e : j = (P 0).toNat
    · rw [e, pSet_s]; exact hc
    · rw [pSet_ne (by omega)]; exact wl j (by omega)
  · rw [e0] at hj
    unfold adL
    rw [pSet_ne (by omega)]
    by_cases e : j = (P 0).toNat
    · rw [e, pSet_s]; exact Or.inl rfl
    · rw [pSet_ne (by omega), pSet_ne (by omega)]; exact wn j (by omega)
theorem c_X4_addsLetter (hM : MdL h o) (hP : gI h (o + 1) = P) (hm : 0 ≤ P 0 ∧ P 0 < 64) (c : Int) (hc : jr c) : zM G zX4_addsLetter 0 [.ref o, .int (jI c)] h (zOkV (fun h1 => zIo [o + 1] h h1 ∧ gI h1 (o + 1) = adL P c)) := by
  refine zM.ofV (lv := [(0, .ref o), (1, .int (jI (c)))]) (by decide +kernel) (Nat.le_of_ble_eq_true rfl) rfl ?_
  refine zV_aload_n 0 dX4_addsLetter_0 rfl rfl (Or.inr ⟨_, rfl⟩) ?_
  refine zV_getf (v := .ref (o + 1)) (ci := 3) (q := (RX4, TX4, 27)) 1 dX4_addsLetter_1 q1918 (md_k hM) rfl (by decide) (congrArg va_rf (md_r_s hM)) (by decide) ?_
  refine zV_jbipush dX4_addsLetter_4 (by decide) ?_
  refine zV_aload_n 0 dX4_addsLetter_6 rfl rfl (Or.inr ⟨_, rfl⟩) ?_
  refine zV_getf (v := .ref (o + 1)) (ci := 3) (q := (RX4, TX4, 27)) 1 dX4_addsLetter_7 q1918 (md_k hM) rfl (by decide) (congrArg va_rf (md_r_s hM)) (by decide) ?_
  refine zV_iconst (n := 0) dX4_addsLetter_10 ?_
  refine zV_tiald 0 171 dX4_addsLetter_11 (md_k_s hM) (md_z_s hM) (by omega) (by omega) (by omega) ?_
  refine zV.eq (congrFun hP 0) ?_
  refine zV_jadd dX4_addsLetter_12 ?_
  refine zV.eq (show (43 + (P 0) : Int) = (((P 0).toNat + 43 : Nat) : Int) from by omega) ?_
  refine zV_iload_n 1 dX4_addsLetter_13 rfl rfl ?_
  refine zV_jiast (x := jI (c)) ((P 0).toNat + 43) 171 dX4_addsLetter_14 (md_k_s hM) (Nat.le_trans (md_ge hM) (by omega)) (md_z_s hM) (by omega) (by omega) (by omega) ?_
  have i1 : zIo [o + 1] h (sI h (o + 1) ((P 0).toNat + 43) (jI c)) := zIo.rf.put (by simp)
  have p1 := gI_pSet (k := (P 0).toNat + 43) hc hP
  generalize sI h (o + 1) ((P 0).toNat + 43) (jI c) = h1 at i1 p1 ⊢
  have hM1 := hM.io i1
  refine zV_aload_n 0 dX4_addsLetter_15 rfl rfl (Or.inr ⟨_, rfl⟩) ?_
  refine zV_getf (v := .ref (o + 1)) (ci := 3) (q := (RX4, TX4, 27)) 1 dX4_addsLetter_16 q1918 (md_k hM1) rfl (by decide) (congrArg va_rf (md_r_s hM1)) (by decide) ?_
  refine zV_jbipush dX4_addsLetter_19 (by decide) ?_
  refine zV_aload_n 0 dX4_addsLetter_21 rfl rfl (Or.inr ⟨_, rfl⟩) ?_
  refine zV_getf (v := .ref (o + 1)) (ci := 3) (q := (RX4, TX4, 27)) 1 dX4_addsLetter_22 q1918 (md_k hM1) rfl (by decide) (congrArg va_rf (md_r_s hM1)) (by decide) ?_
  refine zV_iconst (n := 0) dX4_addsLetter_25 ?_
  refine zV_tiald 0 171 dX4_addsLetter_26 (md_k_s hM1) (md_z_s hM1) (by omega) (by omega) (by omega) ?_
  refine zV.eq (congrFun p1 0) ?_
  refine zV.eq (show (pSet P ((P 0).toNat + 43) c 0 : Int) = P 0 from pSet_ne (by omega)) ?_
  refine zV_jadd dX4_addsLetter_27 ?_
  refine zV.eq (show (107 + (P 0) : Int) = (((P 0).toNat + 107 : Nat) : Int) from by omega) ?_
  refine zV_iconst (n := 0) dX4_addsLetter_28 ?_
  refine zV_jiast (x := jI (0)) ((P 0).toNat + 107) 171 dX4_addsLetter_29 (md_k_s hM1) (Nat.le_trans (md_ge hM1) (by omega)) (md_z_s hM1) (by omega) (by omega) (by omega) ?_
  have i2 := i1.put (q := o + 1) (k := (P 0).toNat + 107) (x := jI 0) (by simp)
  have p2 := gI_pSet (k := (P 0).toNat + 107) (v := 0) ⟨by decide, by decide⟩ p1
  generalize sI h1 (o + 1) ((P 0).toNat + 107) (jI 0) = h2 at i2 p2 ⊢
  have hM2 := hM.io i2
  refine zV_aload_n 0 dX4_addsLetter_30 rfl rfl (Or.inr ⟨_, rfl⟩) ?_
  refine zV_getf (v := .ref (o + 1)) (ci := 3) (q := (RX4, TX4, 27)) 1 dX4_addsLetter_31 q1918 (md_k hM2) rfl (by decide) (congrArg va_rf (md_r_s hM2)) (by decide) ?_
  refine zV_iconst (n := 0) dX4_addsLetter_34 ?_
  refine zV_aload_n 0 dX4_addsLetter_35 rfl rfl (Or.inr ⟨_, rfl⟩) ?_
  refine zV_getf (v := .ref (o + 1)) (ci := 3) (q := (RX4, TX4, 27)) 1 dX4_addsLetter_36 q1918 (md_k hM2) rfl (by decide) (congrArg va_rf (md_r_s hM2)) (by decide) ?_
  refine zV_iconst (n := 0) dX4_addsLetter_39 ?_
  refine zV_tiald 0 171 dX4_addsLetter_40 (md_k_s hM2) (md_z_s hM2) (by omega) (by omega) (by omega) ?_
  refine zV.eq (congrFun p2 0) ?_
  refine zV.eq (show (pSet (pSet P ((P 0).toNat + 43) c) ((P 0).toNat + 107) 0 0 : Int) = P 0 from (pSet_ne (by omega)).trans (pSet_ne (by omega))) ?_
  refine zV_iconst (n := 1) dX4_addsLetter_41 ?_
  refine zV_jadd dX4_addsLetter_42 ?_
  refine zV_jiast (x := jI ((P 0) + 1)) 0 171 dX4_addsLetter_43 (md_k_s hM2) (Nat.le_trans (md_ge hM2) (by omega)) (md_z_s hM2) (by omega) (by omega) (by omega) ?_
  exact zV_return dX4_addsLetter_44 rfl ⟨rfl, i2.put (by simp), gI_pSet ⟨by omega, by omega⟩ p2⟩
theorem c_X4_add {L : List pRow} {K : Option pRow} {I U : Nat × pRow} {E : Int × Int} (hS : MdS h o (P, L, K, I, E, U)) (a : Int) (ha : jr a) : zM G zX4_add 2 [.ref o, .int (jI a)] h (zCg o (ma2 (0 ≤ a ∧ a ≤ 25) (P 0 < 64)) (P 0 + 1) (P, L, K, I, E, U) (adL (acc P 1 1) a, kps P L, K, I, E, U)) := by
  have hM : MdL h o := hS.1; have hP : gI h (o + 1) = P := hS.2.1.1; have hw : pWf P := hS.2.1.2.1; have hMA : mdA h o L := hS.2.2.1; obtain ⟨hA, hA8, hAll, hAR⟩ := hMA
  obtain ⟨w0, w0b, w1, w1b, w2, w2b, w3, w3b, w4, w4b, w5, w5b, wp, wl, wn⟩ := id hw
  refine zM.ofV (lv := [(0, .ref o), (1, .int (jI (a)))]) (by decide +kernel) (Nat.le_of_ble_eq_true rfl) rfl ?_
  refine zV_aload_n 0 dX4_add_0 rfl rfl (Or.inr ⟨_, rfl⟩) ?_
  refine zV_iload_n 1 dX4_add_1 rfl rfl ?_
  refine zV_iconst (n := 0) dX4_add_2 ?_
  refine zV_jbipush dX4_add_3 (by decide) ?_
  refine zc_S (y' := zX4_isIn) (as := [.int (jI (a)), .int (jI (0)), .int (jI (25))]) (rest := [.ref o]) bX4_isIn dX4_add_5 q2012 q2013 (c_X4_isIn (a) (0) (25) ha ⟨by decide, by decide⟩ ⟨by decide, by decide⟩) rfl rfl (by decide) (Nat.le_of_ble_eq_true rfl) (zk_J1 ?_)
  refine zV_aload_n 0 dX4_add_8 rfl rfl (Or.inr ⟨_, rfl⟩) ?_
  refine zc_V (y' := zX4_many) (as := []) (rest := [.int (jI (bI (0 ≤ a ∧ a ≤ 25))), .ref o]) (ci := 3) (q := (RX4, TX4, 27)) bX4_many dX4_add_9 q2042 q2044 qs50 (md_k hM) rfl (c_X4_many hM hP) rfl rfl (by decide) (Nat.le_of_ble_eq_true rfl) (by decide) (zk_J1 ?_)
  refine zV_jbipush dX4_add_12 (by decide) ?_
  refine zV_jcmp_ge 21 dX4_add_14 rfl (by rw [← hP]; exact jr_toInt _) ⟨by decide, by decide⟩ (fun c1 => ?_) (fun c1 => ?_)
  · refine zV_iconst (n := 0) dX4_add_21 ?_
    refine zV.eq (show (0 : Int) = bI (P 0 < 64) from (bI_f (by omega)).symm) ?_
    refine zc_V (y' := zX4_mayTwo) (as := [.int (jI (bI (0 ≤ a ∧ a ≤ 25))), .int (jI (bI (P 0 < 64)))]) (rest := []) (ci := 3) (q := (RX4, TX4, 27)) bX4_mayTwo dX4_add_22 q2145 q2147 qs70 (md_k hM) rfl (c_X4_mayTwo hM (0 ≤ a ∧ a ≤ 25) (P 0 < 64)) rfl rfl (by decide) (Nat.le_of_ble_eq_true rfl) (by decide) (zk_I (fun z h1 ⟨ez, i0⟩ _ => ?_))
    subst ez
    have hM1 : MdL h1 o := hM.ch i0.1
    have hP1 : gI h1 (o + 1) = P := (i0.1.row (by simp)).trans hP
    by_cases cm : (0 ≤ a ∧ a ≤ 25) ∧ (P 0 < 64)
    · exact absurd cm.2 (by omega)
    · refine zV.eq (show (bI ((0 ≤ a ∧ a ≤ 25) ∧ (P 0 < 64)) : Int) = 0 from bI_f cm) ?_
      refine zV_jif_ne 30 dX4_add_25 rfl ⟨by decide, by decide⟩ (fun c_ => absurd c_ (by decide)) (fun _ => ?_)
      refine zV_iconst (n := 0) dX4_add_28 ?_
      exact zV_ireturn dX4_add_29 rfl rfl ⟨_, rfl, i0.2, fun e => absurd e (ma2_ne cm), fun _ => hS.sc i0.go0.1⟩
  · refine zV_iconst (n := 1) dX4_add_17 ?_
    refine zV_goto 22 dX4_add_18 rfl ?_
    refine zV.eq (show (1 : Int) = bI (P 0 < 64) from (bI_t c1).symm) ?_
    refine zc_V (y' := zX4_mayTwo) (as := [.int (jI (bI (0 ≤ a ∧ a ≤ 25))), .int (jI (bI (P 0 < 64)))]) (rest := []) (ci := 3) (q := (RX4, TX4, 27)) bX4_mayTwo dX4_add_22 q2145 q2147 qs70 (md_k hM) rfl (c_X4_mayTwo hM (0 ≤ a ∧ a ≤ 25) (P 0 < 64)) rfl rfl (by decide) (Nat.le_of_ble_eq_true rfl) (by decide) (zk_I (fun z h1 ⟨ez, i0⟩ _ => ?_))
    subst ez
    have hM1 : MdL h1 o := hM.ch i0.1
    have hP1 : gI h1 (o + 1) = P := (i0.1.row (by simp)).trans hP
    by_cases cm : (0 ≤ a ∧ a ≤ 25) ∧ (P 0 < 64)
    · refine zV.eq (show (bI ((0 ≤ a ∧ a ≤ 25) ∧ (P 0 < 64)) : Int) = 1 from bI_t cm) ?_
      refine zV_jif_ne 30 dX4_add_25 rfl ⟨by decide, by decide⟩ (fun _ => ?_) (fun c_ => absurd c_ (by decide))
      have hS1 := hS.sc i0.go0.1
      have gMA : mdA h1 o L := hS1.2.2.1
      obtain ⟨gA, gA8, gAll, gAR⟩ := gMA
      refine zV_aload_n 0 dX4_add_30 rfl rfl (Or.inr ⟨_, rfl⟩) ?_
      refine zV_iconst (n := 1) dX4_add_31 ?_
      refine zV_iconst (n := 1) dX4_add_32 ?_
      refine zc_V (y' := zX4_keeps) (as := [.int (jI (1)), .int (jI (1))]) (rest := []) (ci := 3) (q := (RX4, TX4, 27)) bX4_keeps dX4_add_33 q2517 q2519 qs132 (md_k hM1) rfl (c_X4_keeps hM1 hP1 gA gA8 gAR 1 (by decide) 1) rfl rfl (by decide) (Nat.le_of_ble_eq_true rfl) (by decide) (zk_V (fun h2 ⟨⟨w2, n2, r2⟩, p2⟩ _ => ?_))
      have hM2 := hM1.ch w2
      refine zV_aload_n 0 dX4_add_36 rfl rfl (Or.inr ⟨_, rfl⟩) ?_
      refine zV_iload_n 1 dX4_add_37 rfl rfl ?_
      refine zc_V (y' := zX4_addsLetter) (as := [.int (jI (a))]) (rest := []) (ci := 3) (q := (RX4, TX4, 27)) bX4_addsLetter dX4_add_38 q1913 q1915 qs45 (md_k hM2) rfl (c_X4_addsLetter hM2 p2 (by rw [acc_0]; omega) a ha) rfl rfl (by decide) (Nat.le_of_ble_eq_true rfl) (by decide) (zk_V (fun h3 ⟨k1, p3⟩ _ => ?_))
      have hM3 := hM2.io k1
      have w3 : zCh [o + 1, o + 5] o [6] h1 h3 := w2.tr (zCh.io (k1.mono (by simp)) (by simp))
      have hok : pOk (adL (acc P 1 1) a) := ⟨pWf_adL (pWf_acc hw (by decide)) (by rw [acc_0]; omega) ⟨by omega, by omega⟩, by
        have hl := (pOk_acc (c := 1) (v := 1) hS.2.1.2 (by decide)).2
        unfold adL
        rw [acc_0]
        exact tl_pSet (by omega) (tl_pSet (by omega) (tl_pSet (by omega) hl))⟩
      have hS2 : MdS h3 o (adL (acc P 1 1) a, kps P L, K, I, E, U) := hS1.upd (w3.mono (by simp) (by simp)) ⟨p3, hok⟩ ⟨(congrFun (k1.row (by simp)) 6).trans n2, kps_le gA8, kps_ok gAll hS.2.1.2, by rw [k1.row (by simp)]; exact r2⟩
      have t2 : gI h3 o 0 = 0 := (w3.2 0 (by simp)).trans (i0.2.trans (ma2_iff.mpr cm))
      refine zV_aload_n 0 dX4_add_41 rfl rfl (Or.inr ⟨_, rfl⟩) ?_
      refine zc_V (y' := zX4_many) (as := []) (rest := []) (ci := 3) (q := (RX4, TX4, 27)) bX4_many dX4_add_42 q2042 q2044 qs50 (md_k hM3) rfl (c_X4_many hM3 p3) rfl rfl (by decide) (Nat.le_of_ble_eq_true rfl) (by decide) (zk_J1 ?_)
      refine zV.eq (show (adL (acc P 1 1) a 0 : Int) = P 0 + 1 from by show acc P 1 1 0 + 1 = _; rw [acc_0]) ?_
      exact zV_ireturn dX4_add_45 rfl rfl ⟨_, rfl, t2.trans (ma2_iff.mpr cm).symm, fun _ => ⟨rfl, hS2⟩, fun e => absurd (ma2_iff.mpr cm) e⟩
    · refine zV.eq (show (bI ((0 ≤ a ∧ a ≤ 25) ∧ (P 0 < 64)) : Int) = 0 from bI_f cm) ?_
      refine zV_jif_ne 30 dX4_add_25 rfl ⟨by decide, by decide⟩ (fun c_ => absurd c_ (by decide)) (fun _ => ?_)
      refine zV_iconst (n := 0) dX4_add_28 ?_
      exact zV_ireturn dX4_add_29 rfl rfl ⟨_, rfl, i0.2, fun e => absurd e (ma2_ne cm), fun _ => hS.sc i0.go0.1⟩
def cuZ (P : pRow) (lo k : Nat) : pRow := fun j => if (lo + 43 ≤ j ∧ j < lo + 43 + k) ∨ (lo + 107 ≤ j ∧ j < lo + 107 + k) then 0 else P j
def cuT (P : pRow) (n : Nat) : pRow := pSet (cuZ P ((P 0).toNat - n) n) 0 (P 0 - n)
theorem cuZ_0 {P : pRow} {lo : Nat} : cuZ P lo 0 = P := funext fun j => by unfold cuZ; rw [if_neg (by omega)]
theorem cuZ_s {P : pRow} {lo k : Nat} : cuZ P lo (k + 1) = pSet (pSet (cuZ P lo k) (lo + k + 43) 0) (lo + k + 107) 0 := by
  funext j
  unfold cuZ pSet
  by_cases h1 : j = lo + k + 107
  · rw [if_pos (by omega), if_pos h1]
  · rw [if_neg h1]
    by_cases h2 : j = lo + k + 43
    · rw [if_pos (by omega), if_pos h2]
    · rw [if_neg h2]
      by_cases h3 : (lo + 43 ≤ j ∧ j < lo + 43 + k) ∨ (lo + 107 ≤ j ∧ j < lo + 107 + k)
      · rw [if_pos (by omega)]; exact (if_pos h3).symm
      · rw [if_neg (by omega)]; exact (if_neg h3).symm
theorem cuZ_lo {P : pRow} {lo k j : Nat} (h : j < 43) : cuZ P lo k j = P j := by unfold cuZ; rw [if_neg (by omega)]
theorem pWf_cuT {P : pRow} (hw : pWf P) {n : Nat} (h : (n : Int) < P 0) : pWf (cuT P n) := by
  obtain ⟨w0, w0b, w1, w1b, w2, w2b, w3, w3b, w4, w4b, w5, w5b, wp, wl, wn⟩ := hw
  have e0 : cuT P n 0 = P 0 - n := pSet_s
  have e1 : ∀ k, k ≠ 0 → k < 43 → cuT P n k = P k := fun k h1 h2 => by unfold cuT; rw [pSet_ne h1, cuZ_lo h2]
  refine ⟨by omega, by omega, ?_, ?_, ?_, ?_, ?_, ?_, ?_, ?_, ?_, ?_, fun k hk => ?_, fun j hj => ?_, fun j hj => ?_⟩
  any_goals (rw [e1 _ (by omega) (by omega)]; first | assumption | exact wp k hk)
  · rw [e0] at hj
    unfold cuT cuZ
    rw [pSet_ne (by omega), if_neg (by omega)]
    exact wl j (by omega)
  · rw [e0] at hj
    unfold cuT cuZ
    rw [pSet_ne (by omega), if_neg (by omega)]
    exact wn j (by omega)
theorem c_X4_cut {L : List pRow} {K : Option pRow} {I U : Nat × pRow} {E : Int × Int} (hS : MdS h o (P, L, K, I, E, U)) (a : Int) (ha : jr a) : zM G zX4_cut 2 [.ref o, .int (jI a)] h (zCg o (ma2 (1 ≤ a ∧ a ≤ 64) (a < P 0)) (P 0 - a) (P, L, K, I, E, U) (cuT (acc P 2 a) a.toNat, kps P L, K, I, E, U)) := by
  have hM : MdL h o := hS.1; have hP : gI h (o + 1) = P := hS.2.1.1; have hw : pWf P := hS.2.1.2.1; have hMA : mdA h o L := hS.2.2.1; obtain ⟨hA, hA8, hAll, hAR⟩ := hMA
  obtain ⟨w0, w0b, w1, w1b, w2, w2b, w3, w3b, w4, w4b, w5, w5b, wp, wl, wn⟩ := id hw
  refine zM.ofV (lv := [(0, .ref o), (1, .int (jI (a)))]) (by decide +kernel) (Nat.le_of_ble_eq_true rfl) rfl ?_
  refine zV_aload_n 0 dX4_cut_0 rfl rfl (Or.inr ⟨_, rfl⟩) ?_
  refine zV_iload_n 1 dX4_cut_1 rfl rfl ?_
  refine zV_iconst (n := 1) dX4_cut_2 ?_
  refine zV_jbipush dX4_cut_3 (by decide) ?_
  refine zc_S (y' := zX4_isIn) (as := [.int (jI (a)), .int (jI (1)), .int (jI (64))]) (rest := [.ref o]) bX4_isIn dX4_cut_5 q2012 q2013 (c_X4_isIn (a) (1) (64) ha ⟨by decide, by decide⟩ ⟨by decide, by decide⟩) rfl rfl (by decide) (Nat.le_of_ble_eq_true rfl) (zk_J1 ?_)
  refine zV_iload_n 1 dX4_cut_8 rfl rfl ?_
  refine zV_aload_n 0 dX4_cut_9 rfl rfl (Or.inr ⟨_, rfl⟩) ?_
  refine zc_V (y' := zX4_many) (as := []) (rest := [.int (jI (a)), .int (jI (bI (1 ≤ a ∧ a ≤ 64))), .ref o]) (ci := 3) (q := (RX4, TX4, 27)) bX4_many dX4_cut_10 q2042 q2044 qs50 (md_k hM) rfl (c_X4_many hM hP) rfl rfl (by decide) (Nat.le_of_ble_eq_true rfl) (by decide) (zk_J1 ?_)
  refine zV_jcmp_ge 20 dX4_cut_13 rfl ha (by rw [← hP]; exact jr_toInt _) (fun c1 => ?_) (fun c1 => ?_)
  · refine zV_iconst (n := 0) dX4_cut_20 ?_
    refine zV.eq (show (0 : Int) = bI (a < P 0) from (bI_f (by omega)).symm) ?_
    refine zc_V (y' := zX4_mayTwo) (as := [.int (jI (bI (1 ≤ a ∧ a ≤ 64))), .int (jI (bI (a < P 0)))]) (rest := []) (ci := 3) (q := (RX4, TX4, 27)) bX4_mayTwo dX4_cut_21 q2145 q2147 qs70 (md_k hM) rfl (c_X4_mayTwo hM (1 ≤ a ∧ a ≤ 64) (a < P 0)) rfl rfl (by decide) (Nat.le_of_ble_eq_true rfl) (by decide) (zk_I (fun z h1 ⟨ez, i0⟩ _ => ?_))
    subst ez
    have hM1 : MdL h1 o := hM.ch i0.1
    have hP1 : gI h1 (o + 1) = P := (i0.1.row (by simp)).trans hP
    by_cases cm : (1 ≤ a ∧ a ≤ 64) ∧ (a < P 0)
    · exact absurd cm.2 (by omega)
    · refine zV.eq (show (bI ((1 ≤ a ∧ a ≤ 64) ∧ (a < P 0)) : Int) = 0 from bI_f cm) ?_
      refine zV_jif_ne 29 dX4_cut_24 rfl ⟨by decide, by decide⟩ (fun c_ => absurd c_ (by decide)) (fun _ => ?_)
      refine zV_iconst (n := 0) dX4_cut_27 ?_
      exact zV_ireturn dX4_cut_28 rfl rfl ⟨_, rfl, i0.2, fun e => absurd e (ma2_ne cm), fun _ => hS.sc i0.go0.1⟩
  · refine zV_iconst (n := 1) dX4_cut_16 ?_
    refine zV_goto 21 dX4_cut_17 rfl ?_
    refine zV.eq (show (1 : Int) = bI (a < P 0) from (bI_t c1).symm) ?_
    refine zc_V (y' := zX4_mayTwo) (as := [.int (jI (bI (1 ≤ a ∧ a ≤ 64))), .int (jI (bI (a < P 0)))]) (rest := []) (ci := 3) (q := (RX4, TX4, 27)) bX4_mayTwo dX4_cut_21 q2145 q2147 qs70 (md_k hM) rfl (c_X4_mayTwo hM (1 ≤ a ∧ a ≤ 64) (a < P 0)) rfl rfl (by decide) (Nat.le_of_ble_eq_true rfl) (by decide) (zk_I (fun z h1 ⟨ez, i0⟩ _ => ?_))
    subst ez
    have hM1 : MdL h1 o := hM.ch i0.1
    have hP1 : gI h1 (o + 1) = P := (i0.1.row (by simp)).trans hP
    by_cases cm : (1 ≤ a ∧ a ≤ 64) ∧ (a < P 0)
    · refine zV.eq (show (bI ((1 ≤ a ∧ a ≤ 64) ∧ (a < P 0)) : Int) = 1 from bI_t cm) ?_
      refine zV_jif_ne 29 dX4_cut_24 rfl ⟨by decide, by decide⟩ (fun _ => ?_) (fun c_ => absurd c_ (by decide))
      have hS1 := hS.sc i0.go0.1
      have gMA : mdA h1 o L := hS1.2.2.1
      obtain ⟨gA, gA8, gAll, gAR⟩ := gMA
      obtain ⟨n, rfl⟩ : ∃ n_ : Nat, a = (n_ : Int) := ⟨(a).toNat, by omega⟩
      refine zV_aload_n 0 dX4_cut_29 rfl rfl (Or.inr ⟨_, rfl⟩) ?_
      refine zV_iconst (n := 2) dX4_cut_30 ?_
      refine zV_iload_n 1 dX4_cut_31 rfl rfl ?_
      refine zc_V (y' := zX4_keeps) (as := [.int (jI (2)), .int (jI (((n : Nat) : Int)))]) (rest := []) (ci := 3) (q := (RX4, TX4, 27)) bX4_keeps dX4_cut_32 q2517 q2519 qs132 (md_k hM1) rfl (c_X4_keeps hM1 hP1 gA gA8 gAR 2 (by decide) ((n : Nat) : Int)) rfl rfl (by decide) (Nat.le_of_ble_eq_true rfl) (by decide) (zk_V (fun h2 ⟨⟨w2, n2, r2⟩, p2⟩ _ => ?_))
      have hM2 := hM1.ch w2
      have eL : acc P 2 ((n : Nat) : Int) 0 = P 0 := acc_0
      have hwA : pWf (acc P 2 ((n : Nat) : Int)) := pWf_acc hw (by decide)
      have tlA := (pOk_acc (c := 2) (v := ((n : Nat) : Int)) hS.2.1.2 (by decide)).2
      generalize acc P 2 ((n : Nat) : Int) = P2 at p2 eL hwA tlA ⊢
      refine zV_aload_n 0 dX4_cut_35 rfl rfl (Or.inr ⟨_, rfl⟩) ?_
      refine zc_V (y' := zX4_many) (as := []) (rest := []) (ci := 3) (q := (RX4, TX4, 27)) bX4_many dX4_cut_36 q2042 q2044 qs50 (md_k hM2) rfl (c_X4_many hM2 p2) rfl rfl (by decide) (Nat.le_of_ble_eq_true rfl) (by decide) (zk_J1 ?_)
      refine zV_iload_n 1 dX4_cut_39 rfl rfl ?_
      refine zV_jsub dX4_cut_40 ?_
      refine zV.eq (show ((P2 0) - ((n : Nat) : Int) : Int) = (((P2 0).toNat - n + 0 : Nat) : Int) from by omega) ?_
      refine zV_istore_n (lv' := [(0, .ref o), (1, .int (jI (((n : Nat) : Int)))), (2, .int (jI ((((P2 0).toNat - n + 0 : Nat) : Int))))]) 2 dX4_cut_41 rfl (by decide) rfl rfl ?_
      have key : ∀ f k : Nat, ∀ g : zH, k + f = n → zIo [o + 1] h2 g → gI g (o + 1) = cuZ P2 ((P2 0).toNat - n) k → zV G zX4_cut 2 42 [(0, .ref o), (1, .int (jI (((n : Nat) : Int)))), (2, .int (jI ((((P2 0).toNat - n + k : Nat) : Int))))] [] g (zCg o (ma2 (1 ≤ ((n : Nat) : Int) ∧ ((n : Nat) : Int) ≤ 64) (((n : Nat) : Int) < P 0)) (P 0 - ((n : Nat) : Int)) (P, L, K, I, E, U) (cuT P2 ((n : Nat) : Int).toNat, kps P L, K, I, E, U)) := by
        intro f
        induction f with
        | zero =>
          intro k g h9 j1 j2
          have hM3 := hM2.io j1
          have e0 : cuZ P2 ((P2 0).toNat - n) k 0 = P2 0 := cuZ_lo (by decide)
          refine zV_iload_n 2 dX4_cut_42 rfl rfl ?_
          refine zV_aload_n 0 dX4_cut_43 rfl rfl (Or.inr ⟨_, rfl⟩) ?_
          refine zc_V (y' := zX4_many) (as := []) (rest := [.int (jI ((((P2 0).toNat - n + k : Nat) : Int)))]) (ci := 3) (q := (RX4, TX4, 27)) bX4_many dX4_cut_44 q2042 q2044 qs50 (md_k hM3) rfl (c_X4_many hM3 j2) rfl rfl (by decide) (Nat.le_of_ble_eq_true rfl) (by decide) (zk_J1 ?_)
          refine zV.eq (show (cuZ P2 ((P2 0).toNat - n) k 0 : Int) = P2 0 from e0) ?_
          refine zV_jcmp_ge 76 dX4_cut_47 rfl ⟨by omega, by omega⟩ ⟨by omega, by omega⟩ (fun c5 => ?_) (fun c_ => absurd c_ (by omega))
          refine zV_aload_n 0 dX4_cut_76 rfl rfl (Or.inr ⟨_, rfl⟩) ?_
          refine zV_getf (v := .ref (o + 1)) (ci := 3) (q := (RX4, TX4, 27)) 1 dX4_cut_77 q1918 (md_k hM3) rfl (by decide) (congrArg va_rf (md_r_s hM3)) (by decide) ?_
          refine zV_iconst (n := 0) dX4_cut_80 ?_
          refine zV_aload_n 0 dX4_cut_81 rfl rfl (Or.inr ⟨_, rfl⟩) ?_
          refine zc_V (y' := zX4_many) (as := []) (rest := [.int (jI (0)), .ref (o + 1)]) (ci := 3) (q := (RX4, TX4, 27)) bX4_many dX4_cut_82 q2042 q2044 qs50 (md_k hM3) rfl (c_X4_many hM3 j2) rfl rfl (by decide) (Nat.le_of_ble_eq_true rfl) (by decide) (zk_J1 ?_)
          refine zV.eq (show (cuZ P2 ((P2 0).toNat - n) k 0 : Int) = P2 0 from e0) ?_
          refine zV_iload_n 1 dX4_cut_85 rfl rfl ?_
          refine zV_jsub dX4_cut_86 ?_
          refine zV_jiast (x := jI ((P2 0) - ((n : Nat) : Int))) 0 171 dX4_cut_87 (md_k_s hM3) (Nat.le_trans (md_ge hM3) (by omega)) (md_z_s hM3) (by omega) (by omega) (by omega) ?_
          obtain rfl : k = n := by omega
          have hnn : ((k : Nat) : Int).toNat = k := Int.toNat_natCast k
          have p4 : gI (sI g (o + 1) 0 (jI (P2 0 - ((k : Nat) : Int)))) (o + 1) = cuT P2 k := gI_pSet ⟨by omega, by omega⟩ j2
          have w4 : zCh [o + 1, o + 5] o [6] h1 (sI g (o + 1) 0 (jI (P2 0 - ((k : Nat) : Int)))) := (w2.tr (zCh.io (j1.mono (by simp)) (by simp))).put (by simp) (by omega)
          have n4 : gI (sI g (o + 1) 0 (jI (P2 0 - ((k : Nat) : Int)))) o 6 = ((kps P L).length : Int) := (gI_ne (by omega)).trans ((congrFun (j1.row (by simp)) 6).trans n2)
          have r4 : paR (gI (sI g (o + 1) 0 (jI (P2 0 - ((k : Nat) : Int)))) (o + 5)) (kps P L) := by rw [show gI (sI g (o + 1) 0 (jI (P2 0 - ((k : Nat) : Int)))) (o + 5) = gI g (o + 5) from funext (fun j => gI_ne (by omega)), j1.row (by simp)]; exact r2
          generalize sI g (o + 1) 0 (jI (P2 0 - ((k : Nat) : Int))) = h4 at p4 w4 n4 r4 ⊢
          have hM4 := hM1.ch w4
          have hok : pOk (cuT P2 k) := ⟨pWf_cuT hwA (by omega), tl_pSet (by decide) (fun j hj => by unfold cuZ; rw [if_neg (by omega)]; exact tlA j hj)⟩
          have hS2 : MdS h4 o (cuT P2 ((k : Nat) : Int).toNat, kps P L, K, I, E, U) := by rw [hnn]; exact hS1.upd (w4.mono (by simp) (by simp)) ⟨p4, hok⟩ ⟨n4, kps_le gA8, kps_ok gAll hS.2.1.2, r4⟩
          have t2 : gI h4 o 0 = 0 := (w4.2 0 (by simp)).trans (i0.2.trans (ma2_iff.mpr cm))
          refine zV_aload_n 0 dX4_cut_88 rfl rfl (Or.inr ⟨_, rfl⟩) ?_
          refine zc_V (y' := zX4_many) (as := []) (rest := []) (ci := 3) (q := (RX4, TX4, 27)) bX4_many dX4_cut_89 q2042 q2044 qs50 (md_k hM4) rfl (c_X4_many hM4 p4) rfl rfl (by decide) (Nat.le_of_ble_eq_true rfl) (by decide) (zk_J1 ?_)
          refine zV.eq (show (cuT P2 k 0 : Int) = P 0 - ((k : Nat) : Int) from by show P2 0 - _ = _; rw [eL]) ?_
          exact zV_ireturn dX4_cut_92 rfl rfl ⟨_, rfl, t2.trans (ma2_iff.mpr cm).symm, fun _ => ⟨rfl, hS2⟩, fun e => absurd (ma2_iff.mpr cm) e⟩
        | succ f ih =>
          intro k g h9 j1 j2
          have hM3 := hM2.io j1
          have e0 : cuZ P2 ((P2 0).toNat - n) k 0 = P2 0 := cuZ_lo (by decide)
          refine zV_iload_n 2 dX4_cut_42 rfl rfl ?_
          refine zV_aload_n 0 dX4_cut_43 rfl rfl (Or.inr ⟨_, rfl⟩) ?_
          refine zc_V (y' := zX4_many) (as := []) (rest := [.int (jI ((((P2 0).toNat - n + k : Nat) : Int)))]) (ci := 3) (q := (RX4, TX4, 27)) bX4_many dX4_cut_44 q2042 q2044 qs50 (md_k hM3) rfl (c_X4_many hM3 j2) rfl rfl (by decide) (Nat.le_of_ble_eq_true rfl) (by decide) (zk_J1 ?_)
          refine zV.eq (show (cuZ P2 ((P2 0).toNat - n) k 0 : Int) = P2 0 from e0) ?_
          refine zV_jcmp_ge 76 dX4_cut_47 rfl ⟨by omega, by omega⟩ ⟨by omega, by omega⟩ (fun c_ => absurd c_ (by omega)) (fun c5 => ?_)
          refine zV_aload_n 0 dX4_cut_50 rfl rfl (Or.inr ⟨_, rfl⟩) ?_
          refine zV_getf (v := .ref (o + 1)) (ci := 3) (q := (RX4, TX4, 27)) 1 dX4_cut_51 q1918 (md_k hM3) rfl (by decide) (congrArg va_rf (md_r_s hM3)) (by decide) ?_
          refine zV_jbipush dX4_cut_54 (by decide) ?_
          refine zV_iload_n 2 dX4_cut_56 rfl rfl ?_
          refine zV_jadd dX4_cut_57 ?_
          refine zV_iconst (n := 0) dX4_cut_58 ?_
          refine zV_jiast (x := jI (0)) ((P2 0).toNat - n + k + 43) 171 dX4_cut_59 (md_k_s hM3) (Nat.le_trans (md_ge hM3) (by omega)) (md_z_s hM3) (by omega) (by omega) (by omega) ?_
          have i4 := j1.put (q := o + 1) (k := (P2 0).toNat - n + k + 43) (x := jI 0) (by simp)
          have p4 := gI_pSet (k := (P2 0).toNat - n + k + 43) (v := 0) ⟨by decide, by decide⟩ j2
          generalize sI g (o + 1) ((P2 0).toNat - n + k + 43) (jI 0) = g4 at i4 p4 ⊢
          have hM4 := hM2.io i4
          refine zV_aload_n 0 dX4_cut_60 rfl rfl (Or.inr ⟨_, rfl⟩) ?_
          refine zV_getf (v := .ref (o + 1)) (ci := 3) (q := (RX4, TX4, 27)) 1 dX4_cut_61 q1918 (md_k hM4) rfl (by decide) (congrArg va_rf (md_r_s hM4)) (by decide) ?_
          refine zV_jbipush dX4_cut_64 (by decide) ?_
          refine zV_iload_n 2 dX4_cut_66 rfl rfl ?_
          refine zV_jadd dX4_cut_67 ?_
          refine zV_iconst (n := 0) dX4_cut_68 ?_
          refine zV_jiast (x := jI (0)) ((P2 0).toNat - n + k + 107) 171 dX4_cut_69 (md_k_s hM4) (Nat.le_trans (md_ge hM4) (by omega)) (md_z_s hM4) (by omega) (by omega) (by omega) ?_
          refine zV_jinc (lv' := [(0, .ref o), (1, .int (jI (((n : Nat) : Int)))), (2, .int (jI ((((P2 0).toNat - n + k : Nat) : Int) + 1)))]) dX4_cut_70 rfl (by decide) rfl rfl ?_
          refine zV_goto 42 dX4_cut_73 rfl ?_
          rw [show ((((P2 0).toNat - n + k : Nat) : Int) + 1 : Int) = (((P2 0).toNat - n + (k + 1) : Nat) : Int) from by omega]
          exact ih (k + 1) _ (by omega) (i4.put (by simp)) (by rw [cuZ_s]; exact gI_pSet ⟨by decide, by decide⟩ p4)
      exact key n 0 h2 (by omega) zIo.rf (by rw [cuZ_0]; exact p2)
    · refine zV.eq (show (bI ((1 ≤ a ∧ a ≤ 64) ∧ (a < P 0)) : Int) = 0 from bI_f cm) ?_
      refine zV_jif_ne 29 dX4_cut_24 rfl ⟨by decide, by decide⟩ (fun c_ => absurd c_ (by decide)) (fun _ => ?_)
      refine zV_iconst (n := 0) dX4_cut_27 ?_
      exact zV_ireturn dX4_cut_28 rfl rfl ⟨_, rfl, i0.2, fun e => absurd e (ma2_ne cm), fun _ => hS.sc i0.go0.1⟩
theorem pinN_b {P : pRow} (hw : pWf P) : 0 ≤ pinN P ∧ pinN P ≤ 64 := by
  have h := fU_ind (f := fun k a => a + P (k + 107)) (fun i (a : Int) => 0 ≤ a ∧ a ≤ (i : Int)) (P 0).toNat 0 0 ⟨by decide, by decide⟩ (fun i a _ h2 h3 => by
    have := hw.2.2.2.2.2.2.2.2.2.2.2.2.2.2 i (by have := hw.1; omega)
    constructor <;> rcases this with z | z <;> rw [z] <;> omega)
  have := hw.1
  have := hw.2.1
  unfold pinN
  constructor <;> omega
theorem c_X4_pin {L : List pRow} {K : Option pRow} {I U : Nat × pRow} {E : Int × Int} (hS : MdS h o (P, L, K, I, E, U)) (a : Int) (ha : jr a) (r : Nat) (hr : r < 2) : zM G zX4_pin 3 [.ref o, .int (jI a), .int (jI (r : Int))] h (zCg o (ma2 (0 ≤ a ∧ a < P 0) ((0 ≤ a ∧ a < P 0) ∧ (r = 0 ∨ P (a.toNat + 107) = 1 ∨ pinN P < 16))) (pinN (pSet (acc P 3 1) (a.toNat + 107) ((r : Nat) : Int))) (P, L, K, I, E, U) (pSet (acc P 3 1) (a.toNat + 107) ((r : Nat) : Int), kps P L, K, I, E, U)) := by
  have hM : MdL h o := hS.1; have hP : gI h (o + 1) = P := hS.2.1.1; have hw : pWf P := hS.2.1.2.1; have hMA : mdA h o L := hS.2.2.1; obtain ⟨hA, hA8, hAll, hAR⟩ := hMA
  obtain ⟨w0, w0b, w1, w1b, w2, w2b, w3, w3b, w4, w4b, w5, w5b, wp, wl, wn⟩ := id hw
  refine zM.ofV (lv := [(0, .ref o), (1, .int (jI (a))), (2, .int (jI (((r : Nat) : Int))))]) (by decide +kernel) (Nat.le_of_ble_eq_true rfl) rfl ?_
  refine zV_aload_n 0 dX4_pin_0 rfl rfl (Or.inr ⟨_, rfl⟩) ?_
  refine zV_iload_n 1 dX4_pin_1 rfl rfl ?_
  refine zc_V (y' := zX4_isPlace) (as := [.int (jI (a))]) (rest := []) (ci := 3) (q := (RX4, TX4, 27)) bX4_isPlace dX4_pin_2 q2256 q2258 qs90 (md_k hM) rfl (c_X4_isPlace hM hP hw a ha) rfl rfl (by decide) (Nat.le_of_ble_eq_true rfl) (by decide) (zk_J1 ?_)
  by_cases c1 : 0 ≤ a ∧ a < P 0
  · obtain ⟨p, rfl⟩ : ∃ n_ : Nat, a = (n_ : Int) := ⟨(a).toNat, by omega⟩
    refine zV.eq (show (bI (0 ≤ ((p : Nat) : Int) ∧ ((p : Nat) : Int) < P 0) : Int) = 1 from bI_t c1) ?_
    refine zV_istore_n (lv' := [(0, .ref o), (1, .int (jI (((p : Nat) : Int)))), (2, .int (jI (((r : Nat) : Int)))), (3, .int (jI (1)))]) 3 dX4_pin_5 rfl (by decide) rfl rfl ?_
    refine zV_aload_n 0 dX4_pin_6 rfl rfl (Or.inr ⟨_, rfl⟩) ?_
    refine zV_iload_n 3 dX4_pin_7 rfl rfl ?_
    refine zV_iload_n 3 dX4_pin_8 rfl rfl ?_
    refine zV_jif_eq 37 dX4_pin_9 rfl ⟨by decide, by decide⟩ (fun c_ => absurd c_ (by decide)) (fun _ => ?_)
    refine zV_iload_n 2 dX4_pin_12 rfl rfl ?_
    refine zV_jif_eq 33 dX4_pin_13 rfl ⟨by omega, by omega⟩ (fun c2 => ?_) (fun c2 => ?_)
    · refine zV_iconst (n := 1) dX4_pin_33 ?_
      refine zV_goto 38 dX4_pin_34 rfl ?_
      refine zV.eq (show (1 : Int) = bI ((0 ≤ ((p : Nat) : Int) ∧ ((p : Nat) : Int) < P 0) ∧ (r = 0 ∨ P (((p : Nat) : Int).toNat + 107) = 1 ∨ pinN P < 16)) from (bI_t ⟨c1, Or.inl (by omega)⟩).symm) ?_
      refine zV.eq2 (show (1 : Int) = bI (0 ≤ ((p : Nat) : Int) ∧ ((p : Nat) : Int) < P 0) from (bI_t c1).symm) ?_
      refine zc_V (y' := zX4_mayTwo) (as := [.int (jI (bI (0 ≤ ((p : Nat) : Int) ∧ ((p : Nat) : Int) < P 0))), .int (jI (bI ((0 ≤ ((p : Nat) : Int) ∧ ((p : Nat) : Int) < P 0) ∧ (r = 0 ∨ P (((p : Nat) : Int).toNat + 107) = 1 ∨ pinN P < 16))))]) (rest := []) (ci := 3) (q := (RX4, TX4, 27)) bX4_mayTwo dX4_pin_38 q2145 q2147 qs70 (md_k hM) rfl (c_X4_mayTwo hM (0 ≤ ((p : Nat) : Int) ∧ ((p : Nat) : Int) < P 0) ((0 ≤ ((p : Nat) : Int) ∧ ((p : Nat) : Int) < P 0) ∧ (r = 0 ∨ P (((p : Nat) : Int).toNat + 107) = 1 ∨ pinN P < 16))) rfl rfl (by decide) (Nat.le_of_ble_eq_true rfl) (by decide) (zk_I (fun z h1 ⟨ez, i0⟩ _ => ?_))
      subst ez
      have hM1 : MdL h1 o := hM.ch i0.1
      have hP1 : gI h1 (o + 1) = P := (i0.1.row (by simp)).trans hP
      by_cases cm : (0 ≤ ((p : Nat) : Int) ∧ ((p : Nat) : Int) < P 0) ∧ ((0 ≤ ((p : Nat) : Int) ∧ ((p : Nat) : Int) < P 0) ∧ (r = 0 ∨ P (((p : Nat) : Int).toNat + 107) = 1 ∨ pinN P < 16))
      · refine zV.eq (show (bI ((0 ≤ ((p : Nat) : Int) ∧ ((p : Nat) : Int) < P 0) ∧ ((0 ≤ ((p : Nat) : Int) ∧ ((p : Nat) : Int) < P 0) ∧ (r = 0 ∨ P (((p : Nat) : Int).toNat + 107) = 1 ∨ pinN P < 16))) : Int) = 1 from bI_t cm) ?_
        refine zV_jif_ne 46 dX4_pin_41 rfl ⟨by decide, by decide⟩ (fun _ => ?_) (fun c_ => absurd c_ (by decide))
        have hS1 := hS.sc i0.go0.1
        have gMA : mdA h1 o L := hS1.2.2.1
        obtain ⟨gA, gA8, gAll, gAR⟩ := gMA
        refine zV_aload_n 0 dX4_pin_46 rfl rfl (Or.inr ⟨_, rfl⟩) ?_
        refine zV_jbipush dX4_pin_47 (by decide) ?_
        refine zV_iload_n 1 dX4_pin_49 rfl rfl ?_
        refine zV_jadd dX4_pin_50 ?_
        refine zV.eq (show (107 + ((p : Nat) : Int) : Int) = ((p + 107 : Nat) : Int) from by omega) ?_
        refine zV_iload_n 2 dX4_pin_51 rfl rfl ?_
        refine zc_S (y' := zX4_bit) (as := [.int (jI (((r : Nat) : Int)))]) (rest := [.int (jI (((p + 107 : Nat) : Int))), .ref o]) bX4_bit dX4_pin_52 q2180 q2181 (c_X4_bitN r hr) rfl rfl (by decide) (Nat.le_of_ble_eq_true rfl) (zk_J1 ?_)
        refine zV_iconst (n := 3) dX4_pin_55 ?_
        refine zc_V (y' := zX4_changes) (as := [.int (jI (((p + 107 : Nat) : Int))), .int (jI (((r : Nat) : Int))), .int (jI (3))]) (rest := []) (ci := 3) (q := (RX4, TX4, 27)) bX4_changes dX4_pin_56 q2513 q2515 qs131 (md_k hM1) rfl (c_X4_changes hM1 hP1 gA gA8 gAR (p + 107) 3 (by omega) (by decide) (by omega) ((r : Nat) : Int) ⟨by omega, by omega⟩) rfl rfl (by decide) (Nat.le_of_ble_eq_true rfl) (by decide) (zk_I (fun z h2 ⟨ez, ⟨w2, n2, r2⟩, p2⟩ _ => ?_))
        subst ez
        have hok : pOk (pSet (acc P 3 1) (p + 107) ((r : Nat) : Int)) := ⟨pWf_pin (pWf_acc hw (by decide)) (by omega), tl_pSet (by omega) (pOk_acc hS.2.1.2 (by decide)).2⟩
        have hS2 : MdS h2 o (pSet (acc P 3 1) (p + 107) ((r : Nat) : Int), kps P L, K, I, E, U) := hS1.upd (w2.mono (by simp) (by simp)) ⟨p2, hok⟩ ⟨n2, kps_le gA8, kps_ok gAll hS.2.1.2, r2⟩
        have t2 : gI h2 o 0 = 0 := (w2.2 0 (by simp)).trans (i0.2.trans (ma2_iff.mpr cm))
        have hM2 := hM1.ch w2
        refine zV_istore (lv' := [(0, .ref o), (1, .int (jI (((p : Nat) : Int)))), (2, .int (jI (((r : Nat) : Int)))), (3, .int (jI (1))), (4, .int (jI (P (p + 107))))]) dX4_pin_59 (by decide) rfl rfl ?_
        refine zV_aload_n 0 dX4_pin_61 rfl rfl (Or.inr ⟨_, rfl⟩) ?_
        refine zc_V (y' := zX4_pinMany) (as := []) (rest := []) (ci := 3) (q := (RX4, TX4, 27)) bX4_pinMany dX4_pin_62 q2093 q2095 qs62 (md_k hM2) rfl (c_X4_pinMany hM2 p2 hok.1) rfl rfl (by decide) (Nat.le_of_ble_eq_true rfl) (by decide) (zk_J1 ?_)
        exact zV_ireturn dX4_pin_65 rfl rfl ⟨_, rfl, t2.trans (ma2_iff.mpr cm).symm, fun _ => ⟨rfl, hS2⟩, fun e => absurd (ma2_iff.mpr cm) e⟩
      · exact absurd ⟨c1, Decidable.byContradiction (fun z => by have := bI_f z; rw [show bI ((0 ≤ ((p : Nat) : Int) ∧ ((p : Nat) : Int) < P 0) ∧ (r = 0 ∨ P (((p : Nat) : Int).toNat + 107) = 1 ∨ pinN P < 16)) = 1 from (bI_t ⟨c1, Or.inl (by omega)⟩)] at this; exact absurd this (by decide))⟩ cm
    · refine zV_aload_n 0 dX4_pin_16 rfl rfl (Or.inr ⟨_, rfl⟩) ?_
      refine zV_iload_n 1 dX4_pin_17 rfl rfl ?_
      refine zc_V (y' := zX4_isPinned) (as := [.int (jI (((p : Nat) : Int)))]) (rest := [.int (jI (1)), .ref o]) (ci := 3) (q := (RX4, TX4, 27)) bX4_isPinned dX4_pin_18 q2097 q2099 qs63 (md_k hM) rfl (c_X4_isPinned hM hP p (by omega)) rfl rfl (by decide) (Nat.le_of_ble_eq_true rfl) (by decide) (zk_J1 ?_)
      by_cases c3 : P (p + 107) = 1
      · refine zV.eq (show (bI (P (p + 107) = 1) : Int) = 1 from bI_t c3) ?_
        refine zV_jif_ne 33 dX4_pin_21 rfl ⟨by decide, by decide⟩ (fun _ => ?_) (fun c_ => absurd c_ (by decide))
        refine zV_iconst (n := 1) dX4_pin_33 ?_
        refine zV_goto 38 dX4_pin_34 rfl ?_
        refine zV.eq (show (1 : Int) = bI ((0 ≤ ((p : Nat) : Int) ∧ ((p : Nat) : Int) < P 0) ∧ (r = 0 ∨ P (((p : Nat) : Int).toNat + 107) = 1 ∨ pinN P < 16)) from (bI_t ⟨c1, Or.inr (Or.inl c3)⟩).symm) ?_
        refine zV.eq2 (show (1 : Int) = bI (0 ≤ ((p : Nat) : Int) ∧ ((p : Nat) : Int) < P 0) from (bI_t c1).symm) ?_
        refine zc_V (y' := zX4_mayTwo) (as := [.int (jI (bI (0 ≤ ((p : Nat) : Int) ∧ ((p : Nat) : Int) < P 0))), .int (jI (bI ((0 ≤ ((p : Nat) : Int) ∧ ((p : Nat) : Int) < P 0) ∧ (r = 0 ∨ P (((p : Nat) : Int).toNat + 107) = 1 ∨ pinN P < 16))))]) (rest := []) (ci := 3) (q := (RX4, TX4, 27)) bX4_mayTwo dX4_pin_38 q2145 q2147 qs70 (md_k hM) rfl (c_X4_mayTwo hM (0 ≤ ((p : Nat) : Int) ∧ ((p : Nat) : Int) < P 0) ((0 ≤ ((p : Nat) : Int) ∧ ((p : Nat) : Int) < P 0) ∧ (r = 0 ∨ P (((p : Nat) : Int).toNat + 107) = 1 ∨ pinN P < 16))) rfl rfl (by decide) (Nat.le_of_ble_eq_true rfl) (by decide) (zk_I (fun z h1 ⟨ez, i0⟩ _ => ?_))
        subst ez
        have hM1 : MdL h1 o := hM.ch i0.1
        have hP1 : gI h1 (o + 1) = P := (i0.1.row (by simp)).trans hP
        by_cases cm : (0 ≤ ((p : Nat) : Int) ∧ ((p : Nat) : Int) < P 0) ∧ ((0 ≤ ((p : Nat) : Int) ∧ ((p : Nat) : Int) < P 0) ∧ (r = 0 ∨ P (((p : Nat) : Int).toNat + 107) = 1 ∨ pinN P < 16))
        · refine zV.eq (show (bI ((0 ≤ ((p : Nat) : Int) ∧ ((p : Nat) : Int) < P 0) ∧ ((0 ≤ ((p : Nat) : Int) ∧ ((p : Nat) : Int) < P 0) ∧ (r = 0 ∨ P (((p : Nat) : Int).toNat + 107) = 1 ∨ pinN P < 16))) : Int) = 1 from bI_t cm) ?_
          refine zV_jif_ne 46 dX4_pin_41 rfl ⟨by decide, by decide⟩ (fun _ => ?_) (fun c_ => absurd c_ (by decide))
          have hS1 := hS.sc i0.go0.1
          have gMA : mdA h1 o L := hS1.2.2.1
          obtain ⟨gA, gA8, gAll, gAR⟩ := gMA
          refine zV_aload_n 0 dX4_pin_46 rfl rfl (Or.inr ⟨_, rfl⟩) ?_
          refine zV_jbipush dX4_pin_47 (by decide) ?_
          refine zV_iload_n 1 dX4_pin_49 rfl rfl ?_
          refine zV_jadd dX4_pin_50 ?_
          refine zV.eq (show (107 + ((p : Nat) : Int) : Int) = ((p + 107 : Nat) : Int) from by omega) ?_
          refine zV_iload_n 2 dX4_pin_51 rfl rfl ?_
          refine zc_S (y' := zX4_bit) (as := [.int (jI (((r : Nat) : Int)))]) (rest := [.int (jI (((p + 107 : Nat) : Int))), .ref o]) bX4_bit dX4_pin_52 q2180 q2181 (c_X4_bitN r hr) rfl rfl (by decide) (Nat.le_of_ble_eq_true rfl) (zk_J1 ?_)
          refine zV_iconst (n := 3) dX4_pin_55 ?_
          refine zc_V (y' := zX4_changes) (as := [.int (jI (((p + 107 : Nat) : Int))), .int (jI (((r : Nat) : Int))), .int (jI (3))]) (rest := []) (ci := 3) (q := (RX4, TX4, 27)) bX4_changes dX4_pin_56 q2513 q2515 qs131 (md_k hM1) rfl (c_X4_changes hM1 hP1 gA gA8 gAR (p + 107) 3 (by omega) (by decide) (by omega) ((r : Nat) : Int) ⟨by omega, by omega⟩) rfl rfl (by decide) (Nat.le_of_ble_eq_true rfl) (by decide) (zk_I (fun z h2 ⟨ez, ⟨w2, n2, r2⟩, p2⟩ _ => ?_))
          subst ez
          have hok : pOk (pSet (acc P 3 1) (p + 107) ((r : Nat) : Int)) := ⟨pWf_pin (pWf_acc hw (by decide)) (by omega), tl_pSet (by omega) (pOk_acc hS.2.1.2 (by decide)).2⟩
          have hS2 : MdS h2 o (pSet (acc P 3 1) (p + 107) ((r : Nat) : Int), kps P L, K, I, E, U) := hS1.upd (w2.mono (by simp) (by simp)) ⟨p2, hok⟩ ⟨n2, kps_le gA8, kps_ok gAll hS.2.1.2, r2⟩
          have t2 : gI h2 o 0 = 0 := (w2.2 0 (by simp)).trans (i0.2.trans (ma2_iff.mpr cm))
          have hM2 := hM1.ch w2
          refine zV_istore (lv' := [(0, .ref o), (1, .int (jI (((p : Nat) : Int)))), (2, .int (jI (((r : Nat) : Int)))), (3, .int (jI (1))), (4, .int (jI (P (p + 107))))]) dX4_pin_59 (by decide) rfl rfl ?_
          refine zV_aload_n 0 dX4_pin_61 rfl rfl (Or.inr ⟨_, rfl⟩) ?_
          refine zc_V (y' := zX4_pinMany) (as := []) (rest := []) (ci := 3) (q := (RX4, TX4, 27)) bX4_pinMany dX4_pin_62 q2093 q2095 qs62 (md_k hM2) rfl (c_X4_pinMany hM2 p2 hok.1) rfl rfl (by decide) (Nat.le_of_ble_eq_true rfl) (by decide) (zk_J1 ?_)
          exact zV_ireturn dX4_pin_65 rfl rfl ⟨_, rfl, t2.trans (ma2_iff.mpr cm).symm, fun _ => ⟨rfl, hS2⟩, fun e => absurd (ma2_iff.mpr cm) e⟩
        · exact absurd ⟨c1, Decidable.byContradiction (fun z => by have := bI_f z; rw [show bI ((0 ≤ ((p : Nat) : Int) ∧ ((p : Nat) : Int) < P 0) ∧ (r = 0 ∨ P (((p : Nat) : Int).toNat + 107) = 1 ∨ pinN P < 16)) = 1 from (bI_t ⟨c1, Or.inr (Or.inl c3)⟩)] at this; exact absurd this (by decide))⟩ cm
      · refine zV.eq (show (bI (P (p + 107) = 1) : Int) = 0 from bI_f c3) ?_
        refine zV_jif_ne 33 dX4_pin_21 rfl ⟨by decide, by decide⟩ (fun c_ => absurd c_ (by decide)) (fun _ => ?_)
        refine zV_aload_n 0 dX4_pin_24 rfl rfl (Or.inr ⟨_, rfl⟩) ?_
        have hpb := pinN_b hw
        refine zc_V (y' := zX4_pinMany) (as := []) (rest := [.int (jI (1)), .ref o]) (ci := 3) (q := (RX4, TX4, 27)) bX4_pinMany dX4_pin_25 q2093 q2095 qs62 (md_k hM) rfl (c_X4_pinMany hM hP hw) rfl rfl (by decide) (Nat.le_of_ble_eq_true rfl) (by decide) (zk_J1 ?_)
        refine zV_jbipush dX4_pin_28 (by decide) ?_
        refine zV_jcmp_ge 37 dX4_pin_30 rfl ⟨by omega, by omega⟩ ⟨by decide, by decide⟩ (fun c4 => ?_) (fun c4 => ?_)
        · refine zV_iconst (n := 0) dX4_pin_37 ?_
          refine zV.eq (show (0 : Int) = bI ((0 ≤ ((p : Nat) : Int) ∧ ((p : Nat) : Int) < P 0) ∧ (r = 0 ∨ P (((p : Nat) : Int).toNat + 107) = 1 ∨ pinN P < 16)) from (bI_f (fun z => by rcases z.2 with z | z | z; exact absurd z (by omega); exact c3 z; omega)).symm) ?_
          refine zV.eq2 (show (1 : Int) = bI (0 ≤ ((p : Nat) : Int) ∧ ((p : Nat) : Int) < P 0) from (bI_t c1).symm) ?_
          refine zc_V (y' := zX4_mayTwo) (as := [.int (jI (bI (0 ≤ ((p : Nat) : Int) ∧ ((p : Nat) : Int) < P 0))), .int (jI (bI ((0 ≤ ((p : Nat) : Int) ∧ ((p : Nat) : Int) < P 0) ∧ (r = 0 ∨ P (((p : Nat) : Int).toNat + 107) = 1 ∨ pinN P < 16))))]) (rest := []) (ci := 3) (q := (RX4, TX4, 27)) bX4_mayTwo dX4_pin_38 q2145 q2147 qs70 (md_k hM) rfl (c_X4_mayTwo hM (0 ≤ ((p : Nat) : Int) ∧ ((p : Nat) : Int) < P 0) ((0 ≤ ((p : Nat) : Int) ∧ ((p : Nat) : Int) < P 0) ∧ (r = 0 ∨ P (((p : Nat) : Int).toNat + 107) = 1 ∨ pinN P < 16))) rfl rfl (by decide) (Nat.le_of_ble_eq_true rfl) (by decide) (zk_I (fun z h1 ⟨ez, i0⟩ _ => ?_))
          subst ez
          have hM1 : MdL h1 o := hM.ch i0.1
          have hP1 : gI h1 (o + 1) = P := (i0.1.row (by simp)).trans hP
          by_cases cm : (0 ≤ ((p : Nat) : Int) ∧ ((p : Nat) : Int) < P 0) ∧ ((0 ≤ ((p : Nat) : Int) ∧ ((p : Nat) : Int) < P 0) ∧ (r = 0 ∨ P (((p : Nat) : Int).toNat + 107) = 1 ∨ pinN P < 16))
          · exact absurd cm.2.2 (fun z => by rcases z with z | z | z; exact absurd z (by omega); exact c3 z; omega)
          · refine zV.eq (show (bI ((0 ≤ ((p : Nat) : Int) ∧ ((p : Nat) : Int) < P 0) ∧ ((0 ≤ ((p : Nat) : Int) ∧ ((p : Nat) : Int) < P 0) ∧ (r = 0 ∨ P (((p : Nat) : Int).toNat + 107) = 1 ∨ pinN P < 16))) : Int) = 0 from bI_f cm) ?_
            refine zV_jif_ne 46 dX4_pin_41 rfl ⟨by decide, by decide⟩ (fun c_ => absurd c_ (by decide)) (fun _ => ?_)
            refine zV_iconst (n := 0) dX4_pin_44 ?_
            exact zV_ireturn dX4_pin_45 rfl rfl ⟨_, rfl, i0.2, fun e => absurd e (ma2_ne cm), fun _ => hS.sc i0.go0.1⟩
        · refine zV_iconst (n := 1) dX4_pin_33 ?_
          refine zV_goto 38 dX4_pin_34 rfl ?_
          refine zV.eq (show (1 : Int) = bI ((0 ≤ ((p : Nat) : Int) ∧ ((p : Nat) : Int) < P 0) ∧ (r = 0 ∨ P (((p : Nat) : Int).toNat + 107) = 1 ∨ pinN P < 16)) from (bI_t ⟨c1, Or.inr (Or.inr c4)⟩).symm) ?_
          refine zV.eq2 (show (1 : Int) = bI (0 ≤ ((p : Nat) : Int) ∧ ((p : Nat) : Int) < P 0) from (bI_t c1).symm) ?_
          refine zc_V (y' := zX4_mayTwo) (as := [.int (jI (bI (0 ≤ ((p : Nat) : Int) ∧ ((p : Nat) : Int) < P 0))), .int (jI (bI ((0 ≤ ((p : Nat) : Int) ∧ ((p : Nat) : Int) < P 0) ∧ (r = 0 ∨ P (((p : Nat) : Int).toNat + 107) = 1 ∨ pinN P < 16))))]) (rest := []) (ci := 3) (q := (RX4, TX4, 27)) bX4_mayTwo dX4_pin_38 q2145 q2147 qs70 (md_k hM) rfl (c_X4_mayTwo hM (0 ≤ ((p : Nat) : Int) ∧ ((p : Nat) : Int) < P 0) ((0 ≤ ((p : Nat) : Int) ∧ ((p : Nat) : Int) < P 0) ∧ (r = 0 ∨ P (((p : Nat) : Int).toNat + 107) = 1 ∨ pinN P < 16))) rfl rfl (by decide) (Nat.le_of_ble_eq_true rfl) (by decide) (zk_I (fun z h1 ⟨ez, i0⟩ _ => ?_))
          subst ez
          have hM1 : MdL h1 o := hM.ch i0.1
          have hP1 : gI h1 (o + 1) = P := (i0.1.row (by simp)).trans hP
          by_cases cm : (0 ≤ ((p : Nat) : Int) ∧ ((p : Nat) : Int) < P 0) ∧ ((0 ≤ ((p : Nat) : Int) ∧ ((p : Nat) : Int) < P 0) ∧ (r = 0 ∨ P (((p : Nat) : Int).toNat + 107) = 1 ∨ pinN P < 16))
          · refine zV.eq (show (bI ((0 ≤ ((p : Nat) : Int) ∧ ((p : Nat) : Int) < P 0) ∧ ((0 ≤ ((p : Nat) : Int) ∧ ((p : Nat) : Int) < P 0) ∧ (r = 0 ∨ P (((p : Nat) : Int).toNat + 107) = 1 ∨ pinN P < 16))) : Int) = 1 from bI_t cm) ?_
            refine zV_jif_ne 46 dX4_pin_41 rfl ⟨by decide, by decide⟩ (fun _ => ?_) (fun c_ => absurd c_ (by decide))
            have hS1 := hS.sc i0.go0.1
            have gMA : mdA h1 o L := hS1.2.2.1
            obtain ⟨gA, gA8, gAll, gAR⟩ := gMA
            refine zV_aload_n 0 dX4_pin_46 rfl rfl (Or.inr ⟨_, rfl⟩) ?_
            refine zV_jbipush dX4_pin_47 (by decide) ?_
            refine zV_iload_n 1 dX4_pin_49 rfl rfl ?_
            refine zV_jadd dX4_pin_50 ?_
            refine zV.eq (show (107 + ((p : Nat) : Int) : Int) = ((p + 107 : Nat) : Int) from by omega) ?_
            refine zV_iload_n 2 dX4_pin_51 rfl rfl ?_
            refine zc_S (y' := zX4_bit) (as := [.int (jI (((r : Nat) : Int)))]) (rest := [.int (jI (((p + 107 : Nat) : Int))), .ref o]) bX4_bit dX4_pin_52 q2180 q2181 (c_X4_bitN r hr) rfl rfl (by decide) (Nat.le_of_ble_eq_true rfl) (zk_J1 ?_)
            refine zV_iconst (n := 3) dX4_pin_55 ?_
            refine zc_V (y' := zX4_changes) (as := [.int (jI (((p + 107 : Nat) : Int))), .int (jI (((r : Nat) : Int))), .int (jI (3))]) (rest := []) (ci := 3) (q := (RX4, TX4, 27)) bX4_changes dX4_pin_56 q2513 q2515 qs131 (md_k hM1) rfl (c_X4_changes hM1 hP1 gA gA8 gAR (p + 107) 3 (by omega) (by decide) (by omega) ((r : Nat) : Int) ⟨by omega, by omega⟩) rfl rfl (by decide) (Nat.le_of_ble_eq_true rfl) (by decide) (zk_I (fun z h2 ⟨ez, ⟨w2, n2, r2⟩, p2⟩ _ => ?_))
            subst ez
            have hok : pOk (pSet (acc P 3 1) (p + 107) ((r : Nat) : Int)) := ⟨pWf_pin (pWf_acc hw (by decide)) (by omega), tl_pSet (by omega) (pOk_acc hS.2.1.2 (by decide)).2⟩
            have hS2 : MdS h2 o (pSet (acc P 3 1) (p + 107) ((r : Nat) : Int), kps P L, K, I, E, U) := hS1.upd (w2.mono (by simp) (by simp)) ⟨p2, hok⟩ ⟨n2, kps_le gA8, kps_ok gAll hS.2.1.2, r2⟩
            have t2 : gI h2 o 0 = 0 := (w2.2 0 (by simp)).trans (i0.2.trans (ma2_iff.mpr cm))
            have hM2 := hM1.ch w2
            refine zV_istore (lv' := [(0, .ref o), (1, .int (jI (((p : Nat) : Int)))), (2, .int (jI (((r : Nat) : Int)))), (3, .int (jI (1))), (4, .int (jI (P (p + 107))))]) dX4_pin_59 (by decide) rfl rfl ?_
            refine zV_aload_n 0 dX4_pin_61 rfl rfl (Or.inr ⟨_, rfl⟩) ?_
            refine zc_V (y' := zX4_pinMany) (as := []) (rest := []) (ci := 3) (q := (RX4, TX4, 27)) bX4_pinMany dX4_pin_62 q2093 q2095 qs62 (md_k hM2) rfl (c_X4_pinMany hM2 p2 hok.1) rfl rfl (by decide) (Nat.le_of_ble_eq_true rfl) (by decide) (zk_J1 ?_)
            exact zV_ireturn dX4_pin_65 rfl rfl ⟨_, rfl, t2.trans (ma2_iff.mpr cm).symm, fun _ => ⟨rfl, hS2⟩, fun e => absurd (ma2_iff.mpr cm) e⟩
          · exact absurd ⟨c1, Decidable.byContradiction (fun z => by have := bI_f z; rw [show bI ((0 ≤ ((p : Nat) : Int) ∧ ((p : Nat) : Int) < P 0) ∧ (r = 0 ∨ P (((p : Nat) : Int).toNat + 107) = 1 ∨ pinN P < 16)) = 1 from (bI_t ⟨c1, Or.inr (Or.inr c4)⟩)] at this; exact absurd this (by decide))⟩ cm
  · refine zV.eq (show (bI (0 ≤ a ∧ a < P 0) : Int) = 0 from bI_f c1) ?_
    refine zV_istore_n (lv' := [(0, .ref o), (1, .int (jI (a))), (2, .int (jI (((r : Nat) : Int)))), (3, .int (jI (0)))]) 3 dX4_pin_5 rfl (by decide) rfl rfl ?_
    refine zV_aload_n 0 dX4_pin_6 rfl rfl (Or.inr ⟨_, rfl⟩) ?_
    refine zV_iload_n 3 dX4_pin_7 rfl rfl ?_
    refine zV_iload_n 3 dX4_pin_8 rfl rfl ?_
    refine zV_jif_eq 37 dX4_pin_9 rfl ⟨by decide, by decide⟩ (fun _ => ?_) (fun c_ => absurd c_ (by decide))
    refine zV_iconst (n := 0) dX4_pin_37 ?_
    refine zV.eq (show (0 : Int) = bI ((0 ≤ a ∧ a < P 0) ∧ (r = 0 ∨ P (a.toNat + 107) = 1 ∨ pinN P < 16)) from (bI_f (fun z => c1 z.1)).symm) ?_
    refine zV.eq2 (show (0 : Int) = bI (0 ≤ a ∧ a < P 0) from (bI_f c1).symm) ?_
    refine zc_V (y' := zX4_mayTwo) (as := [.int (jI (bI (0 ≤ a ∧ a < P 0))), .int (jI (bI ((0 ≤ a ∧ a < P 0) ∧ (r = 0 ∨ P (a.toNat + 107) = 1 ∨ pinN P < 16))))]) (rest := []) (ci := 3) (q := (RX4, TX4, 27)) bX4_mayTwo dX4_pin_38 q2145 q2147 qs70 (md_k hM) rfl (c_X4_mayTwo hM (0 ≤ a ∧ a < P 0) ((0 ≤ a ∧ a < P 0) ∧ (r = 0 ∨ P (a.toNat + 107) = 1 ∨ pinN P < 16))) rfl rfl (by decide) (Nat.le_of_ble_eq_true rfl) (by decide) (zk_I (fun z h1 ⟨ez, i0⟩ _ => ?_))
    subst ez
    have hM1 : MdL h1 o := hM.ch i0.1
    have hP1 : gI h1 (o + 1) = P := (i0.1.row (by simp)).trans hP
    by_cases cm : (0 ≤ a ∧ a < P 0) ∧ ((0 ≤ a ∧ a < P 0) ∧ (r = 0 ∨ P (a.toNat + 107) = 1 ∨ pinN P < 16))
    · exact absurd cm.1 c1
    · refine zV.eq (show (bI ((0 ≤ a ∧ a < P 0) ∧ ((0 ≤ a ∧ a < P 0) ∧ (r = 0 ∨ P (a.toNat + 107) = 1 ∨ pinN P < 16))) : Int) = 0 from bI_f cm) ?_
      refine zV_jif_ne 46 dX4_pin_41 rfl ⟨by decide, by decide⟩ (fun c_ => absurd c_ (by decide)) (fun _ => ?_)
      refine zV_iconst (n := 0) dX4_pin_44 ?_
      exact zV_ireturn dX4_pin_45 rfl rfl ⟨_, rfl, i0.2, fun e => absurd e (ma2_ne cm), fun _ => hS.sc i0.go0.1⟩
end M17
