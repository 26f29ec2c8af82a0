/-! ===== THE MODEL, 8: parses (printed by a program of gen/) ===== -/
set_option maxRecDepth 100000
section M8
variable {G : zG} {h : zH} {o : Nat} {P : pRow}
/-- only ints changed: in rows S, and of row o the places ks -/
def zCh (S : List Nat) (o : Nat) (ks : List Nat) (h h' : zH) : Prop := zIo (o :: S) h h' ∧ ∀ j, j ∉ ks → gI h' o j = gI h o j
theorem zCh.rf {S : List Nat} {o : Nat} {ks : List Nat} {h : zH} : zCh S o ks h h := ⟨zIo.rf, fun _ _ => rfl⟩
theorem zCh.tr {S : List Nat} {o : Nat} {ks : List Nat} {h h1 h2 : zH} (a : zCh S o ks h h1) (b : zCh S o ks h1 h2) : zCh S o ks h h2 := ⟨a.1.tr b.1, fun j hj => (b.2 j hj).trans (a.2 j hj)⟩
theorem zCh.mono {S S' : List Nat} {o : Nat} {ks ks' : List Nat} {h h1 : zH} (a : zCh S o ks h h1) (hs : ∀ q ∈ S, q ∈ S') (hk : ∀ q ∈ ks, q ∈ ks') : zCh S' o ks' h h1 :=
  ⟨a.1.mono (fun q hq => by rcases List.mem_cons.mp hq with h | h; exact List.mem_cons.mpr (Or.inl h); exact List.mem_cons.mpr (Or.inr (hs q h))), fun j hj => a.2 j (fun z => hj (hk j z))⟩
theorem zCh.io {S : List Nat} {o : Nat} {ks : List Nat} {h h1 : zH} (a : zIo S h h1) (ho : o ∉ S) : zCh S o ks h h1 := ⟨a.mono (fun q hq => List.mem_cons.mpr (Or.inr hq)), fun j _ => congrFun (a.row ho) j⟩
theorem zCh.put {S : List Nat} {o : Nat} {ks : List Nat} {h h1 : zH} (a : zCh S o ks h h1) {q k : Nat} {x : Int32} (hq : q ∈ S) (hne : q ≠ o) : zCh S o ks h (sI h1 q k x) :=
  ⟨a.1.put (List.mem_cons.mpr (Or.inr hq)), fun j hj => by
    have : gI (sI h1 q k x) o j = gI h1 o j := by show (zu2 (zI h1) q k x o j).toInt = _; rw [zu2_ne _ _ (fun e => hne e.1.symm)]
    rw [this]; exact a.2 j hj⟩
theorem zCh.puto {S : List Nat} {o : Nat} {ks : List Nat} {h h1 : zH} (a : zCh S o ks h h1) {k : Nat} {x : Int32} (hk : k ∈ ks) : zCh S o ks h (sI h1 o k x) :=
  ⟨a.1.put (List.mem_cons.mpr (Or.inl rfl)), fun j hj => by
    have : gI (sI h1 o k x) o j = gI h1 o j := by show (zu2 (zI h1) o k x o j).toInt = _; rw [zu2_ne _ _ (fun e => hj (by rw [e.2]; exact hk))]
    rw [this]; exact a.2 j hj⟩
theorem zCh.row {S : List Nat} {o : Nat} {ks : List Nat} {h h1 : zH} (a : zCh S o ks h h1) {q : Nat} (hq : q ∉ o :: S) : gI h1 q = gI h q := a.1.row hq
theorem MdL.ch {S : List Nat} {o o' : Nat} {ks : List Nat} {h h1 : zH} (hM : MdL h o') (a : zCh S o ks h h1) : MdL h1 o' := hM.io a.1
theorem gI_ne {h : zH} {a k : Nat} {x : Int32} {b j : Nat} (hn : ¬ (b = a ∧ j = k)) : gI (sI h a k x) b j = gI h b j := by
  show (zu2 (zI h) a k x b j).toInt = _
  rw [zu2_ne _ _ hn]
/-- the first i steps of a parse are laid -/
def PsM (h : zH) (o : Nat) (P : pRow) (k i : Nat) : Prop := gI h o 14 = (i : Int) ∧ ∀ j, j < i → gI h (o + 9) j = (qP P k j : Int) ∧ gI h (o + 10) j = (qG P k j : Int) ∧ gI h (o + 11) j = (qD P k j : Int)
theorem PsM.ch {S : List Nat} {ks : List Nat} {h h1 : zH} {o : Nat} {P : pRow} {k i : Nat} (a : PsM h o P k i) (c : zCh S o ks h h1) (h14 : 14 ∉ ks) (h9 : o + 9 ∉ S) (h10 : o + 10 ∉ S) (h11 : o + 11 ∉ S) : PsM h1 o P k i :=
  ⟨(c.2 14 h14).trans a.1, fun j hj => by
    rw [c.row (q := o + 9) (by simp [h9]), c.row (q := o + 10) (by simp [h10]), c.row (q := o + 11) (by simp [h11])]
    exact a.2 j hj⟩
theorem qL_s (P : pRow) (k j : Nat) : qL P k (j + 1) = if qD P k j = 0 then qL P k j else qD P k j := rfl
theorem qR_s (P : pRow) (k j : Nat) : qR P k (j + 1) = if qD P k j = 0 then 1 else 0 := rfl
theorem qP_s (P : pRow) (k j : Nat) : qP P k (j + 1) = qP P k j + qG P k j := rfl
/-- the bounds of a parse -/
theorem q_b {P : pRow} (hw : pWf P) {k j : Nat} (hj : j < qN P k) : (qP P k j : Int) < P 0 ∧ qP P k j < 64 ∧ qL P k j < 33 ∧ qR P k j < 2 ∧ 1 ≤ qG P k j ∧ qG P k j ≤ 12 ∧ qP P k j + qG P k j ≤ 64 ∧ ((qP P k j + qG P k j : Nat) : Int) ≤ P 0 ∧ qD P k j < 33 ∧ qD P k j ≤ qP P k j := by
  have h1 := (qN_ok hw k).2.2.2 j hj
  have h2 := cha_b hw k h1.1 h1.2
  have h3 := hw.2.1
  exact ⟨h1.2, by have := h1.2; show (sq P k j).1 < 64; omega, h1.1.2.1, h1.1.2.2, h2.1, h2.2.1, by show (sq P k j).1 + (cha P k (sq P k j)).1 ≤ 64; have := h2.2.2.1; omega, h2.2.2.1, h2.2.2.2⟩
theorem qN_le {P : pRow} (hw : pWf P) (k : Nat) : qN P k ≤ 64 := (qN_ok hw k).1
theorem qE_b {P : pRow} (hw : pWf P) {k j : Nat} (hj : j ≤ qN P k) : qP P k j ≤ 64 ∧ (qP P k j : Int) ≤ P 0 ∧ qL P k j < 33 ∧ qR P k j < 2 := by
  have h3 := hw.2.1
  by_cases e : j = qN P k
  · have h1 := (qN_ok hw k).2.2.1
    rw [← e] at h1
    exact ⟨by have := h1.1; show (sq P k j).1 ≤ 64; omega, h1.1, h1.2.1, h1.2.2⟩
  · have := q_b hw (k := k) (j := j) (by omega)
    exact ⟨by omega, by omega, this.2.2.1, this.2.2.2.1⟩
theorem c_X4_ends (hM : MdL h o) (hw : pWf P) {k i : Nat} (hS : PsM h o P k i) (hi : i ≤ qN P k) : zM G zX4_ends 0 [.ref o] h (zJ h (some (.int (jI ((qP P k i : Nat) : Int))))) := by
  have hN := qN_le hw k
  refine zM.ofV (lv := [(0, .ref o)]) (by decide +kernel) (Nat.le_of_ble_eq_true rfl) rfl ?_
  refine zV_aload_n 0 dX4_ends_0 rfl rfl (Or.inr ⟨_, rfl⟩) ?_
  refine zV_tgetf (ci := 3) (q := (RX4, TX4, 27)) 14 dX4_ends_1 q1931 (md_k hM) rfl (by decide) rfl (by decide) ?_
  refine zV.eq (show ((zI h o 14).toInt : Int) = ((i : Nat) : Int) from hS.1) ?_
  refine zV_jif_ne 11 dX4_ends_4 rfl ⟨by omega, by omega⟩ (fun c1 => ?_) (fun c1 => ?_)
  · have hq := q_b hw (k := k) (j := i - 1) (by omega)
    have hj := hS.2 (i - 1) (by omega)
    have hs : qP P k i = qP P k (i - 1) + qG P k (i - 1) := by rw [← qP_s, show i - 1 + 1 = i by omega]
    refine zV_aload_n 0 dX4_ends_11 rfl rfl (Or.inr ⟨_, rfl⟩) ?_
    refine zV_getf (v := .ref (o + 9)) (ci := 3) (q := (RX4, TX4, 27)) 11 dX4_ends_12 q1928 (md_k hM) rfl (by decide) (congrArg va_rf (md_r_from hM)) (by decide) ?_
    refine zV_aload_n 0 dX4_ends_15 rfl rfl (Or.inr ⟨_, rfl⟩) ?_
    refine zV_tgetf (ci := 3) (q := (RX4, TX4, 27)) 14 dX4_ends_16 q1931 (md_k hM) rfl (by decide) rfl (by decide) ?_
    refine zV.eq (show ((zI h o 14).toInt : Int) = ((i : Nat) : Int) from hS.1) ?_
    refine zV_iconst (n := 1) dX4_ends_19 ?_
    refine zV_jsub dX4_ends_20 ?_
    refine zV_tiald (i - 1) 64 dX4_ends_21 (md_k_from hM) (md_z_from hM) (by omega) (by omega) (by omega) ?_
    refine zV.eq (show ((zI h (o + 9) (i - 1)).toInt : Int) = ((qP P k (i - 1) : Nat) : Int) from hj.1) ?_
    refine zV_aload_n 0 dX4_ends_22 rfl rfl (Or.inr ⟨_, rfl⟩) ?_
    refine zV_getf (v := .ref (o + 10)) (ci := 3) (q := (RX4, TX4, 27)) 12 dX4_ends_23 q1929 (md_k hM) rfl (by decide) (congrArg va_rf (md_r_length hM)) (by decide) ?_
    refine zV_aload_n 0 dX4_ends_26 rfl rfl (Or.inr ⟨_, rfl⟩) ?_
    refine zV_tgetf (ci := 3) (q := (RX4, TX4, 27)) 14 dX4_ends_27 q1931 (md_k hM) rfl (by decide) rfl (by decide) ?_
    refine zV.eq (show ((zI h o 14).toInt : Int) = ((i : Nat) : Int) from hS.1) ?_
    refine zV_iconst (n := 1) dX4_ends_30 ?_
    refine zV_jsub dX4_ends_31 ?_
    refine zV_tiald (i - 1) 64 dX4_ends_32 (md_k_length hM) (md_z_length hM) (by omega) (by omega) (by omega) ?_
    refine zV.eq (show ((zI h (o + 10) (i - 1)).toInt : Int) = ((qG P k (i - 1) : Nat) : Int) from hj.2.1) ?_
    refine zV_jadd dX4_ends_33 ?_
    exact zV_ireturn dX4_ends_34 rfl rfl ⟨by rw [hs]; rfl, rfl⟩
  · refine zV_iconst (n := 0) dX4_ends_7 ?_
    refine zV_goto 34 dX4_ends_8 rfl ?_
    exact zV_ireturn dX4_ends_34 rfl rfl ⟨by rw [show i = 0 by omega]; rfl, rfl⟩
def zPs (o : Nat) : zH → zH → Prop := zCh [o + 9, o + 10, o + 11] o [14]
theorem c_X4_steps0 (hM : MdL h o) (hw : pWf P) {k i : Nat} (hS : PsM h o P k i) (hi : i < qN P k) (n d : Nat) (hn : (n, d) = cha P k (sq P k i)) : zM G zX4_steps0 1 [.ref o, .int (jI (n : Int)), .int (jI (d : Int))] h (zOkV (fun h1 => zPs o h h1 ∧ PsM h1 o P k (i + 1))) := by
  have hN := qN_le hw k
  have hn1 : n = qG P k i := by have := congrArg Prod.fst hn; exact this
  have hn2 : d = qD P k i := by have := congrArg Prod.snd hn; exact this
  refine zM.ofV (lv := [(0, .ref o), (1, .int (jI ((n : Int)))), (2, .int (jI ((d : Int))))]) (by decide +kernel) (Nat.le_of_ble_eq_true rfl) rfl ?_
  refine zV_aload_n 0 dX4_steps0_0 rfl rfl (Or.inr ⟨_, rfl⟩) ?_
  refine zc_V (y' := zX4_ends) (as := []) (rest := []) (ci := 3) (q := (RX4, TX4, 27)) bX4_ends dX4_steps0_1 q2337 q2339 qs102 (md_k hM) rfl (c_X4_ends hM hw hS (by omega)) rfl rfl (by decide) (Nat.le_of_ble_eq_true rfl) (by decide) (zk_J1 ?_)
  have hq := q_b hw hi
  refine zV_istore_n (lv' := [(0, .ref o), (1, .int (jI ((n : Int)))), (2, .int (jI ((d : Int)))), (3, .int (jI (((qP P k i : Nat) : Int))))]) 3 dX4_steps0_4 rfl (by decide) rfl rfl ?_
  refine zV_aload_n 0 dX4_steps0_5 rfl rfl (Or.inr ⟨_, rfl⟩) ?_
  refine zV_getf (v := .ref (o + 9)) (ci := 3) (q := (RX4, TX4, 27)) 11 dX4_steps0_6 q1928 (md_k hM) rfl (by decide) (congrArg va_rf (md_r_from hM)) (by decide) ?_
  refine zV_aload_n 0 dX4_steps0_9 rfl rfl (Or.inr ⟨_, rfl⟩) ?_
  refine zV_tgetf (ci := 3) (q := (RX4, TX4, 27)) 14 dX4_steps0_10 q1931 (md_k hM) rfl (by decide) rfl (by decide) ?_
  refine zV.eq (show ((zI h o 14).toInt : Int) = ((i : Nat) : Int) from hS.1) ?_
  refine zV_iload_n 3 dX4_steps0_13 rfl rfl ?_
  refine zV_jiast (x := jI (((qP P k i : Nat) : Int))) i 64 dX4_steps0_14 (md_k_from hM) (Nat.le_trans (md_ge hM) (by omega)) (md_z_from hM) (by omega) (by omega) (by omega) ?_
  refine zV_aload_n 0 dX4_steps0_15 rfl rfl (Or.inr ⟨_, rfl⟩) ?_
  refine zV_getf (v := .ref (o + 10)) (ci := 3) (q := (RX4, TX4, 27)) 12 dX4_steps0_16 q1929 (md_k hM) rfl (by decide) (congrArg va_rf (md_r_length hM)) (by decide) ?_
  refine zV_aload_n 0 dX4_steps0_19 rfl rfl (Or.inr ⟨_, rfl⟩) ?_
  refine zV_tgetf (ci := 3) (q := (RX4, TX4, 27)) 14 dX4_steps0_20 q1931 (md_k hM) rfl (by decide) rfl (by decide) ?_
  refine zV.eq (show ((zI (sI h (o + 9) i (jI (((qP P k i : Nat) : Int)))) o 14).toInt : Int) = ((i : Nat) : Int) from (gI_ne (by omega)).trans hS.1) ?_
  refine zV_iload_n 1 dX4_steps0_23 rfl rfl ?_
  refine zV_jiast (x := jI ((n : Int))) i 64 dX4_steps0_24 (md_k_length hM) (Nat.le_trans (md_ge hM) (by omega)) (md_z_length hM) (by omega) (by omega) (by omega) ?_
  refine zV_aload_n 0 dX4_steps0_25 rfl rfl (Or.inr ⟨_, rfl⟩) ?_
  refine zV_getf (v := .ref (o + 11)) (ci := 3) (q := (RX4, TX4, 27)) 13 dX4_steps0_26 q1930 (md_k hM) rfl (by decide) (congrArg va_rf (md_r_distance hM)) (by decide) ?_
  refine zV_aload_n 0 dX4_steps0_29 rfl rfl (Or.inr ⟨_, rfl⟩) ?_
  refine zV_tgetf (ci := 3) (q := (RX4, TX4, 27)) 14 dX4_steps0_30 q1931 (md_k hM) rfl (by decide) rfl (by decide) ?_
  refine zV.eq (show ((zI (sI (sI h (o + 9) i (jI (((qP P k i : Nat) : Int)))) (o + 10) i (jI ((n : Int)))) o 14).toInt : Int) = ((i : Nat) : Int) from (gI_ne (by omega)).trans ((gI_ne (by omega)).trans hS.1)) ?_
  refine zV_iload_n 2 dX4_steps0_33 rfl rfl ?_
  refine zV_jiast (x := jI ((d : Int))) i 64 dX4_steps0_34 (md_k_distance hM) (Nat.le_trans (md_ge hM) (by omega)) (md_z_distance hM) (by omega) (by omega) (by omega) ?_
  refine zV_aload_n 0 dX4_steps0_35 rfl rfl (Or.inr ⟨_, rfl⟩) ?_
  refine zV_aload_n 0 dX4_steps0_36 rfl rfl (Or.inr ⟨_, rfl⟩) ?_
  refine zV_tgetf (ci := 3) (q := (RX4, TX4, 27)) 14 dX4_steps0_37 q1931 (md_k hM) rfl (by decide) rfl (by decide) ?_
  refine zV.eq (show ((zI (sI (sI (sI h (o + 9) i (jI (((qP P k i : Nat) : Int)))) (o + 10) i (jI ((n : Int)))) (o + 11) i (jI ((d : Int)))) o 14).toInt : Int) = ((i : Nat) : Int) from (gI_ne (by omega)).trans ((gI_ne (by omega)).trans ((gI_ne (by omega)).trans hS.1))) ?_
  refine zV_iconst (n := 1) dX4_steps0_40 ?_
  refine zV_jadd dX4_steps0_41 ?_
  refine zV.eq (show (((i : Nat) : Int) + 1 : Int) = ((i + 1 : Nat) : Int) from by omega) ?_
  refine zV_putI (x := jI (((i + 1 : Nat) : Int))) (ci := 3) (q := (RX4, TX4, 27)) 14 dX4_steps0_42 q1931 (md_ge hM) (md_k hM) rfl (by decide) rfl (fun _ _ => rfl) rfl rfl (by decide) ?_
  refine zV_return dX4_steps0_45 rfl ⟨rfl, ((((zCh.rf.put (by simp) (by omega)).put (by simp) (by omega)).put (by simp) (by omega)).puto (by simp)), ?_, fun j hj => ?_⟩
  · rw [gI_put ⟨by omega, by omega⟩, if_pos ⟨rfl, rfl⟩]
  · have e1 : (n : Int) = (qG P k i : Nat) := by rw [← hn1]
    have e2 : (d : Int) = (qD P k i : Nat) := by rw [← hn2]
    have a1 : ∀ (x : Int) (b : Nat), jr x → b ≠ o → ∀ (g : zH) (q k c : Nat), gI (sI g q k (jI x)) b c = if b = q ∧ c = k then x else gI g b c := fun x b hx _ g q k c => gI_put hx
    by_cases e : j = i
    · subst e
      rw [gI_put ⟨by omega, by omega⟩, gI_put ⟨by omega, by omega⟩, gI_put ⟨by omega, by omega⟩, gI_put ⟨by omega, by omega⟩, gI_put ⟨by omega, by omega⟩, gI_put ⟨by omega, by omega⟩, gI_put ⟨by omega, by omega⟩, gI_put ⟨by omega, by omega⟩, gI_put ⟨by omega, by omega⟩, gI_put ⟨by omega, by omega⟩, gI_put ⟨by omega, by omega⟩, gI_put ⟨by omega, by omega⟩]
      simp [e1, e2]
    · have := hS.2 j (by omega)
      rw [gI_put ⟨by omega, by omega⟩, gI_put ⟨by omega, by omega⟩, gI_put ⟨by omega, by omega⟩, gI_put ⟨by omega, by omega⟩, gI_put ⟨by omega, by omega⟩, gI_put ⟨by omega, by omega⟩, gI_put ⟨by omega, by omega⟩, gI_put ⟨by omega, by omega⟩, gI_put ⟨by omega, by omega⟩, gI_put ⟨by omega, by omega⟩, gI_put ⟨by omega, by omega⟩, gI_put ⟨by omega, by omega⟩]
      simp [e, this]
theorem c_X4_lastOf (hM : MdL h o) (hw : pWf P) {k i : Nat} (hS : PsM h o P k i) (hi : i ≤ qN P k) (j : Nat) (hj : j ≤ i) : zM G zX4_lastOf 0 [.ref o, .int (jI (j : Int))] h (zJ h (some (.int (jI ((qL P k j : Nat) : Int))))) := by
  have hN := qN_le hw k
  refine zM.ofV (lv := [(0, .ref o), (1, .int (jI ((j : Int))))]) (by decide +kernel) (Nat.le_of_ble_eq_true rfl) rfl ?_
  refine zV_iload_n 1 dX4_lastOf_0 rfl rfl ?_
  refine zV_iconst (n := 1) dX4_lastOf_1 ?_
  refine zV_jsub dX4_lastOf_2 ?_
  refine zV_istore_n (lv' := [(0, .ref o), (1, .int (jI ((j : Int)))), (2, .int (jI ((j : Int) - 1)))]) 2 dX4_lastOf_3 rfl (by decide) rfl rfl ?_
  have key : ∀ m : Nat, m ≤ j → zV G zX4_lastOf 0 4 [(0, .ref o), (1, .int (jI ((j : Int)))), (2, .int (jI (((m : Nat) : Int) - 1)))] [] h (zJ h (some (.int (jI ((qL P k m : Nat) : Int))))) := by
    intro m
    induction m with
    | zero =>
      intro h1
      refine zV_iload_n 2 dX4_lastOf_4 rfl rfl ?_
      refine zV_jif_lt 30 dX4_lastOf_5 rfl ⟨by omega, by omega⟩ (fun _ => ?_) (fun c_ => absurd c_ (by omega))
      refine zV_iconst (n := 0) dX4_lastOf_30 ?_
      exact zV_ireturn dX4_lastOf_31 rfl rfl ⟨rfl, rfl⟩
    | succ m ih =>
      intro h1
      have hq := q_b hw (k := k) (j := m) (by omega)
      have hj2 := hS.2 m (by omega)
      refine zV_iload_n 2 dX4_lastOf_4 rfl rfl ?_
      refine zV_jif_lt 30 dX4_lastOf_5 rfl ⟨by omega, by omega⟩ (fun c_ => absurd c_ (by omega)) (fun _ => ?_)
      refine zV_aload_n 0 dX4_lastOf_8 rfl rfl (Or.inr ⟨_, rfl⟩) ?_
      refine zV_getf (v := .ref (o + 11)) (ci := 3) (q := (RX4, TX4, 27)) 13 dX4_lastOf_9 q1930 (md_k hM) rfl (by decide) (congrArg va_rf (md_r_distance hM)) (by decide) ?_
      refine zV_iload_n 2 dX4_lastOf_12 rfl rfl ?_
      refine zV_tiald m 64 dX4_lastOf_13 (md_k_distance hM) (md_z_distance hM) (by omega) (by omega) (by omega) ?_
      refine zV.eq (show ((zI h (o + 11) m).toInt : Int) = ((qD P k m : Nat) : Int) from hj2.2.2) ?_
      refine zV_jif_le 24 dX4_lastOf_14 rfl ⟨by omega, by omega⟩ (fun c2 => ?_) (fun c2 => ?_)
      · refine zV_jinc (lv' := [(0, .ref o), (1, .int (jI ((j : Int)))), (2, .int (jI ((((m + 1 : Nat) : Int) - 1) + (-1))))]) dX4_lastOf_24 rfl (by decide) rfl rfl ?_
        refine zV_goto 4 dX4_lastOf_27 rfl ?_
        rw [show ((((m + 1 : Nat) : Int) - 1) + (-1) : Int) = ((m : Nat) : Int) - 1 from by omega]
        rw [qL_s, if_pos (by omega)]
        exact ih (by omega)
      · refine zV_aload_n 0 dX4_lastOf_17 rfl rfl (Or.inr ⟨_, rfl⟩) ?_
        refine zV_getf (v := .ref (o + 11)) (ci := 3) (q := (RX4, TX4, 27)) 13 dX4_lastOf_18 q1930 (md_k hM) rfl (by decide) (congrArg va_rf (md_r_distance hM)) (by decide) ?_
        refine zV_iload_n 2 dX4_lastOf_21 rfl rfl ?_
        refine zV_tiald m 64 dX4_lastOf_22 (md_k_distance hM) (md_z_distance hM) (by omega) (by omega) (by omega) ?_
        refine zV.eq (show ((zI h (o + 11) m).toInt : Int) = ((qD P k m : Nat) : Int) from hj2.2.2) ?_
        exact zV_ireturn dX4_lastOf_23 rfl rfl ⟨by rw [qL_s, if_neg (by omega)], rfl⟩
  exact key j (Nat.le_refl _)
theorem c_X4_isInRun (hM : MdL h o) (hw : pWf P) {k i : Nat} (hS : PsM h o P k i) (hi : i ≤ qN P k) (j : Nat) (hj : j ≤ i) : zM G zX4_isInRun 0 [.ref o, .int (jI (j : Int))] h (zJ h (some (.int (jI ((qR P k j : Nat) : Int))))) := by
  have hN := qN_le hw k
  refine zM.ofV (lv := [(0, .ref o), (1, .int (jI ((j : Int))))]) (by decide +kernel) (Nat.le_of_ble_eq_true rfl) rfl ?_
  refine zV_iload_n 1 dX4_isInRun_0 rfl rfl ?_
  refine zV_jif_le 19 dX4_isInRun_1 rfl ⟨by omega, by omega⟩ (fun c1 => ?_) (fun c1 => ?_)
  · refine zV_iconst (n := 0) dX4_isInRun_19 ?_
    exact zV_ireturn dX4_isInRun_20 rfl rfl ⟨by rw [show j = 0 by omega]; rfl, rfl⟩
  · have hq := q_b hw (k := k) (j := j - 1) (by omega)
    have hj2 := hS.2 (j - 1) (by omega)
    have hs : qR P k j = if qD P k (j - 1) = 0 then 1 else 0 := by rw [← qR_s, show j - 1 + 1 = j by omega]
    refine zV_aload_n 0 dX4_isInRun_4 rfl rfl (Or.inr ⟨_, rfl⟩) ?_
    refine zV_getf (v := .ref (o + 11)) (ci := 3) (q := (RX4, TX4, 27)) 13 dX4_isInRun_5 q1930 (md_k hM) rfl (by decide) (congrArg va_rf (md_r_distance hM)) (by decide) ?_
    refine zV_iload_n 1 dX4_isInRun_8 rfl rfl ?_
    refine zV_iconst (n := 1) dX4_isInRun_9 ?_
    refine zV_jsub dX4_isInRun_10 ?_
    refine zV_tiald (j - 1) 64 dX4_isInRun_11 (md_k_distance hM) (md_z_distance hM) (by omega) (by omega) (by omega) ?_
    refine zV.eq (show ((zI h (o + 11) (j - 1)).toInt : Int) = ((qD P k (j - 1) : Nat) : Int) from hj2.2.2) ?_
    refine zV_jif_ne 19 dX4_isInRun_12 rfl ⟨by omega, by omega⟩ (fun c2 => ?_) (fun c2 => ?_)
    · refine zV_iconst (n := 0) dX4_isInRun_19 ?_
      exact zV_ireturn dX4_isInRun_20 rfl rfl ⟨by rw [hs, if_neg (by omega)]; rfl, rfl⟩
    · refine zV_iconst (n := 1) dX4_isInRun_15 ?_
      refine zV_goto 20 dX4_isInRun_16 rfl ?_
      exact zV_ireturn dX4_isInRun_20 rfl rfl ⟨by rw [hs, if_pos (by omega)]; rfl, rfl⟩
theorem c_X4_stepCost (hM : MdL h o) (hP : gI h (o + 1) = P) (hw : pWf P) {k i : Nat} (hS : PsM h o P k i) (hi : i ≤ qN P k) (j : Nat) (hj : j < i) : zM G zX4_stepCost 2 [.ref o, .int (jI (j : Int))] h (zJ h (some (.int (jI (qC P k j))))) := by
  have hN := qN_le hw k
  refine zM.ofV (lv := [(0, .ref o), (1, .int (jI ((j : Int))))]) (by decide +kernel) (Nat.le_of_ble_eq_true rfl) rfl ?_
  have hq := q_b hw (k := k) (j := j) (by omega)
  have hj2 := hS.2 j hj
  refine zV_aload_n 0 dX4_stepCost_0 rfl rfl (Or.inr ⟨_, rfl⟩) ?_
  refine zV_getf (v := .ref (o + 11)) (ci := 3) (q := (RX4, TX4, 27)) 13 dX4_stepCost_1 q1930 (md_k hM) rfl (by decide) (congrArg va_rf (md_r_distance hM)) (by decide) ?_
  refine zV_iload_n 1 dX4_stepCost_4 rfl rfl ?_
  refine zV_tiald j 64 dX4_stepCost_5 (md_k_distance hM) (md_z_distance hM) (by omega) (by omega) (by omega) ?_
  refine zV.eq (show ((zI h (o + 11) j).toInt : Int) = ((qD P k j : Nat) : Int) from hj2.2.2) ?_
  refine zV_jif_ne 27 dX4_stepCost_6 rfl ⟨by omega, by omega⟩ (fun c1 => ?_) (fun c1 => ?_)
  · refine zV_aload_n 0 dX4_stepCost_27 rfl rfl (Or.inr ⟨_, rfl⟩) ?_
    refine zV_aload_n 0 dX4_stepCost_28 rfl rfl (Or.inr ⟨_, rfl⟩) ?_
    refine zV_getf (v := .ref (o + 10)) (ci := 3) (q := (RX4, TX4, 27)) 12 dX4_stepCost_29 q1929 (md_k hM) rfl (by decide) (congrArg va_rf (md_r_length hM)) (by decide) ?_
    refine zV_iload_n 1 dX4_stepCost_32 rfl rfl ?_
    refine zV_tiald j 64 dX4_stepCost_33 (md_k_length hM) (md_z_length hM) (by omega) (by omega) (by omega) ?_
    refine zV.eq (show ((zI h (o + 10) j).toInt : Int) = ((qG P k j : Nat) : Int) from hj2.2.1) ?_
    refine zV_aload_n 0 dX4_stepCost_34 rfl rfl (Or.inr ⟨_, rfl⟩) ?_
    refine zV_getf (v := .ref (o + 11)) (ci := 3) (q := (RX4, TX4, 27)) 13 dX4_stepCost_35 q1930 (md_k hM) rfl (by decide) (congrArg va_rf (md_r_distance hM)) (by decide) ?_
    refine zV_iload_n 1 dX4_stepCost_38 rfl rfl ?_
    refine zV_tiald j 64 dX4_stepCost_39 (md_k_distance hM) (md_z_distance hM) (by omega) (by omega) (by omega) ?_
    refine zV.eq (show ((zI h (o + 11) j).toInt : Int) = ((qD P k j : Nat) : Int) from hj2.2.2) ?_
    refine zV_aload_n 0 dX4_stepCost_40 rfl rfl (Or.inr ⟨_, rfl⟩) ?_
    refine zV_iload_n 1 dX4_stepCost_41 rfl rfl ?_
    refine zc_V (y' := zX4_lastOf) (as := [.int (jI ((j : Int)))]) (rest := [.int (jI (((qD P k j : Nat) : Int))), .int (jI (((qG P k j : Nat) : Int))), .ref o]) (ci := 3) (q := (RX4, TX4, 27)) bX4_lastOf dX4_stepCost_42 q2353 q2355 qs106 (md_k hM) rfl (c_X4_lastOf hM hw hS hi j (by omega)) rfl rfl (by decide) (Nat.le_of_ble_eq_true rfl) (by decide) (zk_J1 ?_)
    refine zc_V (y' := zX4_copyCost) (as := [.int (jI (((qG P k j : Nat) : Int))), .int (jI (((qD P k j : Nat) : Int))), .int (jI (((qL P k j : Nat) : Int)))]) (rest := []) (ci := 3) (q := (RX4, TX4, 27)) bX4_copyCost dX4_stepCost_45 q2299 q2301 qs96 (md_k hM) rfl (c_X4_copyCost hM hP (qG P k j) (qD P k j) (qL P k j) (by omega) (by omega) (by omega)) rfl rfl (by decide) (Nat.le_of_ble_eq_true rfl) (by decide) (zk_J1 ?_)
    exact zV_ireturn dX4_stepCost_48 rfl rfl ⟨by rw [qC, if_neg (by omega)], rfl⟩
  · refine zV_aload_n 0 dX4_stepCost_9 rfl rfl (Or.inr ⟨_, rfl⟩) ?_
    refine zV_aload_n 0 dX4_stepCost_10 rfl rfl (Or.inr ⟨_, rfl⟩) ?_
    refine zV_getf (v := .ref (o + 9)) (ci := 3) (q := (RX4, TX4, 27)) 11 dX4_stepCost_11 q1928 (md_k hM) rfl (by decide) (congrArg va_rf (md_r_from hM)) (by decide) ?_
    refine zV_iload_n 1 dX4_stepCost_14 rfl rfl ?_
    refine zV_tiald j 64 dX4_stepCost_15 (md_k_from hM) (md_z_from hM) (by omega) (by omega) (by omega) ?_
    refine zV.eq (show ((zI h (o + 9) j).toInt : Int) = ((qP P k j : Nat) : Int) from hj2.1) ?_
    refine zV_aload_n 0 dX4_stepCost_16 rfl rfl (Or.inr ⟨_, rfl⟩) ?_
    refine zV_iload_n 1 dX4_stepCost_17 rfl rfl ?_
    refine zc_V (y' := zX4_isInRun) (as := [.int (jI ((j : Int)))]) (rest := [.int (jI (((qP P k j : Nat) : Int))), .ref o]) (ci := 3) (q := (RX4, TX4, 27)) bX4_isInRun dX4_stepCost_18 q2357 q2359 qs107 (md_k hM) rfl (c_X4_isInRun hM hw hS hi j (by omega)) rfl rfl (by decide) (Nat.le_of_ble_eq_true rfl) (by decide) (zk_J1 ?_)
    refine zc_V (y' := zX4_literalCost) (as := [.int (jI (((qP P k j : Nat) : Int))), .int (jI (((qR P k j : Nat) : Int)))]) (rest := []) (ci := 3) (q := (RX4, TX4, 27)) bX4_literalCost dX4_stepCost_21 q2333 q2335 qs101 (md_k hM) rfl (c_X4_literalCost hM hP hw (qP P k j) (qR P k j) (by omega) (by omega)) rfl rfl (by decide) (Nat.le_of_ble_eq_true rfl) (by decide) (zk_J1 ?_)
    refine zV_goto 48 dX4_stepCost_24 rfl ?_
    exact zV_ireturn dX4_stepCost_48 rfl rfl ⟨by rw [qC, if_pos (by omega)], rfl⟩
theorem c_X4_parseCost (hM : MdL h o) (hP : gI h (o + 1) = P) (hw : pWf P) {k : Nat} (hS : PsM h o P k (qN P k)) : zM G zX4_parseCost 3 [.ref o] h (zJ h (some (.int (jI (qS P k))))) := by
  have hN := qN_le hw k
  refine zM.ofV (lv := [(0, .ref o)]) (by decide +kernel) (Nat.le_of_ble_eq_true rfl) rfl ?_
  refine zV_iconst (n := 0) dX4_parseCost_0 ?_
  refine zV_istore_n (lv' := [(0, .ref o), (1, .int (jI (0)))]) 1 dX4_parseCost_1 rfl (by decide) rfl rfl ?_
  refine zV_iconst (n := 0) dX4_parseCost_2 ?_
  refine zV_istore_n (lv' := [(0, .ref o), (1, .int (jI (0))), (2, .int (jI (0)))]) 2 dX4_parseCost_3 rfl (by decide) rfl rfl ?_
  have key : ∀ f j : Nat, ∀ a : Int, j + f = qN P k → zV G zX4_parseCost 3 4 [(0, .ref o), (1, .int (jI ((a : Int)))), (2, .int (jI (((j : Nat) : Int))))] [] h (zJ h (some (.int (jI (fU (fun i a => a + qC P k i) f j a))))) := by
    intro f
    induction f with
    | zero =>
      intro j a h1
      refine zV_iload_n 2 dX4_parseCost_4 rfl rfl ?_
      refine zV_aload_n 0 dX4_parseCost_5 rfl rfl (Or.inr ⟨_, rfl⟩) ?_
      refine zV_tgetf (ci := 3) (q := (RX4, TX4, 27)) 14 dX4_parseCost_6 q1931 (md_k hM) rfl (by decide) rfl (by decide) ?_
      refine zV.eq (show ((zI h o 14).toInt : Int) = ((qN P k : Nat) : Int) from hS.1) ?_
      refine zV_jcmp_ge 26 dX4_parseCost_9 rfl ⟨by omega, by omega⟩ ⟨by omega, by omega⟩ (fun c1 => ?_) (fun c_ => absurd c_ (by omega))
      refine zV_iload_n 1 dX4_parseCost_26 rfl rfl ?_
      exact zV_ireturn dX4_parseCost_27 rfl rfl ⟨rfl, rfl⟩
    | succ f ih =>
      intro j a h1
      refine zV_iload_n 2 dX4_parseCost_4 rfl rfl ?_
      refine zV_aload_n 0 dX4_parseCost_5 rfl rfl (Or.inr ⟨_, rfl⟩) ?_
      refine zV_tgetf (ci := 3) (q := (RX4, TX4, 27)) 14 dX4_parseCost_6 q1931 (md_k hM) rfl (by decide) rfl (by decide) ?_
      refine zV.eq (show ((zI h o 14).toInt : Int) = ((qN P k : Nat) : Int) from hS.1) ?_
      refine zV_jcmp_ge 26 dX4_parseCost_9 rfl ⟨by omega, by omega⟩ ⟨by omega, by omega⟩ (fun c_ => absurd c_ (by omega)) (fun c1 => ?_)
      refine zV_iload_n 1 dX4_parseCost_12 rfl rfl ?_
      refine zV_aload_n 0 dX4_parseCost_13 rfl rfl (Or.inr ⟨_, rfl⟩) ?_
      refine zV_iload_n 2 dX4_parseCost_14 rfl rfl ?_
      refine zc_V (y' := zX4_stepCost) (as := [.int (jI (((j : Nat) : Int)))]) (rest := [.int (jI ((a : Int)))]) (ci := 3) (q := (RX4, TX4, 27)) bX4_stepCost dX4_parseCost_15 q2377 q2379 qs111 (md_k hM) rfl (c_X4_stepCost hM hP hw hS (Nat.le_refl _) j (by omega)) rfl rfl (by decide) (Nat.le_of_ble_eq_true rfl) (by decide) (zk_J1 ?_)
      refine zV_jadd dX4_parseCost_18 ?_
      refine zV_istore_n (lv' := [(0, .ref o), (1, .int (jI ((a : Int) + (qC P k j)))), (2, .int (jI (((j : Nat) : Int))))]) 1 dX4_parseCost_19 rfl (by decide) rfl rfl ?_
      refine zV_jinc (lv' := [(0, .ref o), (1, .int (jI ((a : Int) + (qC P k j)))), (2, .int (jI (((j : Nat) : Int) + 1)))]) dX4_parseCost_20 rfl (by decide) rfl rfl ?_
      refine zV_goto 4 dX4_parseCost_23 rfl ?_
      rw [show (((j : Nat) : Int) + 1 : Int) = ((j + 1 : Nat) : Int) from by omega]
      exact ih (j + 1) _ (by omega)
  exact key (qN P k) 0 0 (by omega)
end M8
