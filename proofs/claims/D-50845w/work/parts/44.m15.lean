/-! ===== THE MODEL, 15: what would be (printed by a program of gen/) ===== -/
set_option maxRecDepth 100000
section M15
variable {G : zG} {h : zH} {o : Nat} {P : pRow}
theorem zCh.drop {S : List Nat} {o q : Nat} {ks : List Nat} {h h1 : zH} (a : zCh (q :: S) o ks h h1) (e : gI h1 q = gI h q) : zCh S o ks h h1 := by
  refine ⟨⟨a.1.1, fun b hb j => ?_⟩, a.2⟩
  by_cases hbq : b = q
  · subst hbq
    exact Int32.toInt_inj.mp (congrFun e j)
  · refine a.1.2 b (fun z => ?_) j
    rcases List.mem_cons.mp z with z | z
    · exact hb (List.mem_cons.mpr (Or.inl z))
    · rcases List.mem_cons.mp z with z | z
      · exact hbq z
      · exact hb (List.mem_cons.mpr (Or.inr z))
theorem gI_pSet {h : zH} {a k : Nat} {v : Int} {P : pRow} (hv : jr v) (hP : gI h a = P) : gI (sI h a k (jI v)) a = pSet P k v := by
  funext j
  rw [gI_put hv]
  unfold pSet
  by_cases e : j = k
  · rw [if_pos ⟨rfl, e⟩, if_pos e]
  · rw [if_neg (fun z => e z.2), if_neg e, hP]
theorem cpR_back {P X : pRow} {k : Nat} {v : Int} (hk : k < 171) : cpR (cpR P 0 X 0 171) 0 (pSet P k v) 0 171 = P := by
  funext j
  unfold cpR pSet
  by_cases e : j < 171
  · rw [if_pos (by omega), if_pos (by omega)]; congr 1; omega
  · rw [if_neg (by omega), if_neg (by omega)]
theorem c_X4_trial (hM : MdL h o) (hP : gI h (o + 1) = P) : zM G zX4_trial 1 [.ref o] h (zOkV (fun h1 => zIo [o + 3] h h1 ∧ gI h1 (o + 3) = cpR P 0 (gI h (o + 3)) 0 171)) := by
  refine zM.ofV (lv := [(0, .ref o)]) (by decide +kernel) (Nat.le_of_ble_eq_true rfl) rfl ?_
  refine zV_aload_n 0 dX4_trial_0 rfl rfl (Or.inr ⟨_, rfl⟩) ?_
  refine zV_getf (v := .ref (o + 1)) (ci := 3) (q := (RX4, TX4, 27)) 1 dX4_trial_1 q1918 (md_k hM) rfl (by decide) (congrArg va_rf (md_r_s hM)) (by decide) ?_
  refine zV_iconst (n := 0) dX4_trial_4 ?_
  refine zV_aload_n 0 dX4_trial_5 rfl rfl (Or.inr ⟨_, rfl⟩) ?_
  refine zV_getf (v := .ref (o + 3)) (ci := 3) (q := (RX4, TX4, 27)) 3 dX4_trial_6 q1920 (md_k hM) rfl (by decide) (congrArg va_rf (md_r_aside hM)) (by decide) ?_
  refine zV_iconst (n := 0) dX4_trial_9 ?_
  refine zV_jsipush dX4_trial_10 (by decide) ?_
  refine zc_S (y' := zX4_copies) (as := [.ref (o + 1), .int (jI (0)), .ref (o + 3), .int (jI (0)), .int (jI (171))]) (rest := []) bX4_copies dX4_trial_13 q2027 q2028 (c_X4_copies (md_k_s hM) (md_k_aside hM) (md_z_s hM) (md_z_aside hM) (Nat.le_trans (md_ge hM) (by omega)) 0 0 171 (by decide) (by decide) (by decide) (by decide) (Or.inl (by omega))) rfl rfl (by decide) (Nat.le_of_ble_eq_true rfl) (zk_V (fun h1 ⟨i1, i2⟩ _ => ?_))
  exact zV_return dX4_trial_16 rfl ⟨rfl, i1, by rw [i2, hP]⟩
theorem c_X4_back (hM : MdL h o) (v : Int) : zM G zX4_back 1 [.ref o, .int (jI v)] h (zOkI (fun z h1 => z = v ∧ zIo [o + 1] h h1 ∧ gI h1 (o + 1) = cpR (gI h (o + 3)) 0 (gI h (o + 1)) 0 171)) := by
  refine zM.ofV (lv := [(0, .ref o), (1, .int (jI (v)))]) (by decide +kernel) (Nat.le_of_ble_eq_true rfl) rfl ?_
  refine zV_aload_n 0 dX4_back_0 rfl rfl (Or.inr ⟨_, rfl⟩) ?_
  refine zV_getf (v := .ref (o + 3)) (ci := 3) (q := (RX4, TX4, 27)) 3 dX4_back_1 q1920 (md_k hM) rfl (by decide) (congrArg va_rf (md_r_aside hM)) (by decide) ?_
  refine zV_iconst (n := 0) dX4_back_4 ?_
  refine zV_aload_n 0 dX4_back_5 rfl rfl (Or.inr ⟨_, rfl⟩) ?_
  refine zV_getf (v := .ref (o + 1)) (ci := 3) (q := (RX4, TX4, 27)) 1 dX4_back_6 q1918 (md_k hM) rfl (by decide) (congrArg va_rf (md_r_s hM)) (by decide) ?_
  refine zV_iconst (n := 0) dX4_back_9 ?_
  refine zV_jsipush dX4_back_10 (by decide) ?_
  refine zc_S (y' := zX4_copies) (as := [.ref (o + 3), .int (jI (0)), .ref (o + 1), .int (jI (0)), .int (jI (171))]) (rest := []) bX4_copies dX4_back_13 q2027 q2028 (c_X4_copies (md_k_aside hM) (md_k_s hM) (md_z_aside hM) (md_z_s hM) (Nat.le_trans (md_ge hM) (by omega)) 0 0 171 (by decide) (by decide) (by decide) (by decide) (Or.inl (by omega))) rfl rfl (by decide) (Nat.le_of_ble_eq_true rfl) (zk_V (fun h1 ⟨i1, i2⟩ _ => ?_))
  refine zV_iload_n 1 dX4_back_16 rfl rfl ?_
  exact zV_ireturn dX4_back_17 rfl rfl ⟨_, rfl, rfl, i1, i2⟩
theorem c_X4_bestWith (hM : MdL h o) (hP : gI h (o + 1) = P) (k : Nat) (v : Int) (hv : jr v) (hk : k < 171) (hw2 : pWf (pSet P k v)) : zM G zX4_bestWith 6 [.ref o, .int (jI (k : Int)), .int (jI v)] h (zOkI (fun z h1 => z = bPr (pSet P k v) ∧ zCh [o + 3, o + 6, o + 7] o [14] h h1)) := by
  refine zM.ofV (lv := [(0, .ref o), (1, .int (jI (((k : Nat) : Int)))), (2, .int (jI (v)))]) (by decide +kernel) (Nat.le_of_ble_eq_true rfl) rfl ?_
  refine zV_aload_n 0 dX4_bestWith_0 rfl rfl (Or.inr ⟨_, rfl⟩) ?_
  refine zc_V (y' := zX4_trial) (as := []) (rest := []) (ci := 3) (q := (RX4, TX4, 27)) bX4_trial dX4_bestWith_1 q2469 q2471 qs127 (md_k hM) rfl (c_X4_trial hM hP) rfl rfl (by decide) (Nat.le_of_ble_eq_true rfl) (by decide) (zk_V (fun h1 ⟨i1, i2⟩ _ => ?_))
  have c1 : zCh [o + 1, o + 3, o + 6, o + 7] o [14] h h1 := zCh.io (i1.mono (by simp)) (by simp)
  have hM1 := hM.ch c1
  have hP1 : gI h1 (o + 1) = P := (i1.row (by simp)).trans hP
  refine zV_aload_n 0 dX4_bestWith_4 rfl rfl (Or.inr ⟨_, rfl⟩) ?_
  refine zV_getf (v := .ref (o + 1)) (ci := 3) (q := (RX4, TX4, 27)) 1 dX4_bestWith_5 q1918 (md_k hM1) rfl (by decide) (congrArg va_rf (md_r_s hM1)) (by decide) ?_
  refine zV_iload_n 1 dX4_bestWith_8 rfl rfl ?_
  refine zV_iload_n 2 dX4_bestWith_9 rfl rfl ?_
  refine zV_jiast (x := jI (v)) k 171 dX4_bestWith_10 (md_k_s hM1) (Nat.le_trans (md_ge hM1) (by omega)) (md_z_s hM1) (by omega) (by omega) (by omega) ?_
  have hP2 := gI_pSet (k := k) hv hP1
  have c2 := c1.put (q := o + 1) (k := k) (x := jI (v)) (by simp) (by omega)
  have e3 : gI (sI h1 (o + 1) k (jI (v))) (o + 3) = cpR P 0 (gI h (o + 3)) 0 171 := funext (fun j => (gI_ne (by omega)).trans (congrFun i2 j))
  generalize sI h1 (o + 1) k (jI (v)) = h2 at hP2 c2 e3 ⊢
  have hM2 := hM.ch c2
  refine zV_aload_n 0 dX4_bestWith_11 rfl rfl (Or.inr ⟨_, rfl⟩) ?_
  refine zV_aload_n 0 dX4_bestWith_12 rfl rfl (Or.inr ⟨_, rfl⟩) ?_
  refine zc_V (y' := zX4_laysRest) (as := []) (rest := [.ref o]) (ci := 3) (q := (RX4, TX4, 27)) bX4_laysRest dX4_bestWith_13 q2317 q2319 qs98 (md_k hM2) rfl (c_X4_laysRest hM2 hP2 hw2) rfl rfl (by decide) (Nat.le_of_ble_eq_true rfl) (by decide) (zk_I (fun z h3 ⟨ez, j1, _, _⟩ _ => ?_))
  subst ez
  have c3 : zCh [o + 1, o + 3, o + 6, o + 7] o [14] h h3 := c2.tr (zCh.io (j1.mono (by simp)) (by simp))
  have hM3 := hM.ch c3
  have r3 : gI h3 (o + 1) = pSet P k v := (j1.row (by simp)).trans hP2
  have e4 : gI h3 (o + 3) = cpR P 0 (gI h (o + 3)) 0 171 := (j1.row (by simp)).trans e3
  refine zc_V (y' := zX4_back) (as := [.int (jI (bPr (pSet P k v)))]) (rest := []) (ci := 3) (q := (RX4, TX4, 27)) bX4_back dX4_bestWith_16 q2473 q2475 qs128 (md_k hM3) rfl (c_X4_back hM3 _) rfl rfl (by decide) (Nat.le_of_ble_eq_true rfl) (by decide) (zk_I (fun z h4 ⟨ez, k1, k2⟩ _ => ?_))
  subst ez
  have c4 : zCh [o + 1, o + 3, o + 6, o + 7] o [14] h h4 := c3.tr (zCh.io (k1.mono (by simp)) (by simp))
  have r4 : gI h4 (o + 1) = gI h (o + 1) := by rw [k2, e4, r3, hP]; exact cpR_back hk
  exact zV_ireturn dX4_bestWith_19 rfl rfl ⟨_, rfl, rfl, c4.drop r4⟩
theorem c_X4_waitingWith (hM : MdL h o) (hP : gI h (o + 1) = P) (v : Int) (hv : jr v) (hw2 : pWf (pSet P 5 v)) : zM G zX4_waitingWith 8 [.ref o, .int (jI v)] h (zOkI (fun z h1 => z = qS (pSet P 5 v) 2 ∧ zCh [o + 3, o + 6, o + 7, o + 9, o + 10, o + 11] o [14] h h1)) := by
  refine zM.ofV (lv := [(0, .ref o), (1, .int (jI (v)))]) (by decide +kernel) (Nat.le_of_ble_eq_true rfl) rfl ?_
  refine zV_aload_n 0 dX4_waitingWith_0 rfl rfl (Or.inr ⟨_, rfl⟩) ?_
  refine zc_V (y' := zX4_trial) (as := []) (rest := []) (ci := 3) (q := (RX4, TX4, 27)) bX4_trial dX4_waitingWith_1 q2469 q2471 qs127 (md_k hM) rfl (c_X4_trial hM hP) rfl rfl (by decide) (Nat.le_of_ble_eq_true rfl) (by decide) (zk_V (fun h1 ⟨i1, i2⟩ _ => ?_))
  have c1 : zCh [o + 1, o + 3, o + 6, o + 7, o + 9, o + 10, o + 11] o [14] h h1 := zCh.io (i1.mono (by simp)) (by simp)
  have hM1 := hM.ch c1
  have hP1 : gI h1 (o + 1) = P := (i1.row (by simp)).trans hP
  refine zV_aload_n 0 dX4_waitingWith_4 rfl rfl (Or.inr ⟨_, rfl⟩) ?_
  refine zV_getf (v := .ref (o + 1)) (ci := 3) (q := (RX4, TX4, 27)) 1 dX4_waitingWith_5 q1918 (md_k hM1) rfl (by decide) (congrArg va_rf (md_r_s hM1)) (by decide) ?_
  refine zV_iconst (n := 5) dX4_waitingWith_8 ?_
  refine zV_iload_n 1 dX4_waitingWith_9 rfl rfl ?_
  refine zV_jiast (x := jI (v)) 5 171 dX4_waitingWith_10 (md_k_s hM1) (Nat.le_trans (md_ge hM1) (by omega)) (md_z_s hM1) (by omega) (by omega) (by omega) ?_
  have hP2 := gI_pSet (k := 5) hv hP1
  have c2 := c1.put (q := o + 1) (k := 5) (x := jI (v)) (by simp) (by omega)
  have e3 : gI (sI h1 (o + 1) 5 (jI (v))) (o + 3) = cpR P 0 (gI h (o + 3)) 0 171 := funext (fun j => (gI_ne (by omega)).trans (congrFun i2 j))
  generalize sI h1 (o + 1) 5 (jI (v)) = h2 at hP2 c2 e3 ⊢
  have hM2 := hM.ch c2
  refine zV_aload_n 0 dX4_waitingWith_11 rfl rfl (Or.inr ⟨_, rfl⟩) ?_
  refine zV_aload_n 0 dX4_waitingWith_12 rfl rfl (Or.inr ⟨_, rfl⟩) ?_
  refine zV_iconst (n := 2) dX4_waitingWith_13 ?_
  refine zc_V (y' := zX4_costOf) (as := [.int (jI (2))]) (rest := [.ref o]) (ci := 3) (q := (RX4, TX4, 27)) bX4_costOf dX4_waitingWith_14 q2453 q2455 qs124 (md_k hM2) rfl (c_X4_costOf hM2 hP2 hw2 2 (by decide)) rfl rfl (by decide) (Nat.le_of_ble_eq_true rfl) (by decide) (zk_I (fun z h3 ⟨ez, j1, _, _⟩ _ => ?_))
  subst ez
  have c3 : zCh [o + 1, o + 3, o + 6, o + 7, o + 9, o + 10, o + 11] o [14] h h3 := c2.tr (j1.mono (by simp) (by simp))
  have hM3 := hM.ch c3
  have r3 : gI h3 (o + 1) = pSet P 5 v := (j1.row (by simp)).trans hP2
  have e4 : gI h3 (o + 3) = cpR P 0 (gI h (o + 3)) 0 171 := (j1.row (by simp)).trans e3
  refine zc_V (y' := zX4_back) (as := [.int (jI (qS (pSet P 5 v) 2))]) (rest := []) (ci := 3) (q := (RX4, TX4, 27)) bX4_back dX4_waitingWith_17 q2473 q2475 qs128 (md_k hM3) rfl (c_X4_back hM3 _) rfl rfl (by decide) (Nat.le_of_ble_eq_true rfl) (by decide) (zk_I (fun z h4 ⟨ez, k1, k2⟩ _ => ?_))
  subst ez
  have c4 : zCh [o + 1, o + 3, o + 6, o + 7, o + 9, o + 10, o + 11] o [14] h h4 := c3.tr (zCh.io (k1.mono (by simp)) (by simp))
  have r4 : gI h4 (o + 1) = gI h (o + 1) := by rw [k2, e4, r3, hP]; exact cpR_back (by decide)
  exact zV_ireturn dX4_waitingWith_20 rfl rfl ⟨_, rfl, rfl, c4.drop r4⟩
theorem c_X4_ifLetter (hM : MdL h o) (hP : gI h (o + 1) = P) (hw : pWf P) (a : Int) (ha : jr a) (b : Int) (hb : jr b) : zM G zX4_ifLetter 7 [.ref o, .int (jI a), .int (jI b)] h (zAn o (ma2 (0 ≤ a ∧ a < P 0) (0 ≤ b ∧ b ≤ 25)) (bPr (pSet P (a.toNat + 43) b)) h) := by
  obtain ⟨w0, w0b, w1, w1b, w2, w2b, w3, w3b, w4, w4b, w5, w5b, wp, wl, wn⟩ := id hw
  refine zM.ofV (lv := [(0, .ref o), (1, .int (jI (a))), (2, .int (jI (b)))]) (by decide +kernel) (Nat.le_of_ble_eq_true rfl) rfl ?_
  refine zV_aload_n 0 dX4_ifLetter_0 rfl rfl (Or.inr ⟨_, rfl⟩) ?_
  refine zV_aload_n 0 dX4_ifLetter_1 rfl rfl (Or.inr ⟨_, rfl⟩) ?_
  refine zV_iload_n 1 dX4_ifLetter_2 rfl rfl ?_
  refine zc_V (y' := zX4_isPlace) (as := [.int (jI (a))]) (rest := [.ref o]) (ci := 3) (q := (RX4, TX4, 27)) bX4_isPlace dX4_ifLetter_3 q2256 q2258 qs90 (md_k hM) rfl (c_X4_isPlace hM hP hw a ha) rfl rfl (by decide) (Nat.le_of_ble_eq_true rfl) (by decide) (zk_J1 ?_)
  refine zV_iload_n 2 dX4_ifLetter_6 rfl rfl ?_
  refine zV_iconst (n := 0) dX4_ifLetter_7 ?_
  refine zV_jbipush dX4_ifLetter_8 (by decide) ?_
  refine zc_S (y' := zX4_isIn) (as := [.int (jI (b)), .int (jI (0)), .int (jI (25))]) (rest := [.int (jI (bI (0 ≤ a ∧ a < P 0))), .ref o]) bX4_isIn dX4_ifLetter_10 q2012 q2013 (c_X4_isIn (b) (0) (25) hb ⟨by decide, by decide⟩ ⟨by decide, by decide⟩) rfl rfl (by decide) (Nat.le_of_ble_eq_true rfl) (zk_J1 ?_)
  refine zc_V (y' := zX4_mayTwo) (as := [.int (jI (bI (0 ≤ a ∧ a < P 0))), .int (jI (bI (0 ≤ b ∧ b ≤ 25)))]) (rest := []) (ci := 3) (q := (RX4, TX4, 27)) bX4_mayTwo dX4_ifLetter_13 q2145 q2147 qs70 (md_k hM) rfl (c_X4_mayTwo hM (0 ≤ a ∧ a < P 0) (0 ≤ b ∧ b ≤ 25)) rfl rfl (by decide) (Nat.le_of_ble_eq_true rfl) (by decide) (zk_I (fun z h1 ⟨ez, i0⟩ _ => ?_))
  subst ez
  have hM1 : MdL h1 o := hM.ch i0.1
  have hP1 : gI h1 (o + 1) = P := (i0.1.row (by simp)).trans hP
  by_cases cm : (0 ≤ a ∧ a < P 0) ∧ (0 ≤ b ∧ b ≤ 25)
  · refine zV.eq (show (bI ((0 ≤ a ∧ a < P 0) ∧ (0 ≤ b ∧ b ≤ 25)) : Int) = 1 from bI_t cm) ?_
    refine zV_jif_eq 31 dX4_ifLetter_16 rfl ⟨by decide, by decide⟩ (fun c_ => absurd c_ (by decide)) (fun _ => ?_)
    obtain ⟨p, rfl⟩ : ∃ n_ : Nat, a = (n_ : Int) := ⟨(a).toNat, by omega⟩
    refine zV_aload_n 0 dX4_ifLetter_19 rfl rfl (Or.inr ⟨_, rfl⟩) ?_
    refine zV_jbipush dX4_ifLetter_20 (by decide) ?_
    refine zV_iload_n 1 dX4_ifLetter_22 rfl rfl ?_
    refine zV_jadd dX4_ifLetter_23 ?_
    refine zV.eq (show (43 + ((p : Nat) : Int) : Int) = ((p + 43 : Nat) : Int) from by omega) ?_
    refine zV_iload_n 2 dX4_ifLetter_24 rfl rfl ?_
    refine zc_V (y' := zX4_bestWith) (as := [.int (jI (((p + 43 : Nat) : Int))), .int (jI (b))]) (rest := []) (ci := 3) (q := (RX4, TX4, 27)) bX4_bestWith dX4_ifLetter_25 q2465 q2467 qs126 (md_k hM1) rfl (c_X4_bestWith hM1 hP1 (p + 43) b hb (by omega) (pWf_letter hw ⟨by omega, by omega⟩ (by omega))) rfl rfl (by decide) (Nat.le_of_ble_eq_true rfl) (by decide) (zk_I (fun z h2 ⟨ez, j1⟩ _ => ?_))
    subst ez
    refine zV_goto 32 dX4_ifLetter_28 rfl ?_
    exact zV_ireturn dX4_ifLetter_32 rfl rfl ⟨_, rfl, i0.go j1 (by simp) (by simp) (by simp), fun _ => rfl⟩
  · refine zV.eq (show (bI ((0 ≤ a ∧ a < P 0) ∧ (0 ≤ b ∧ b ≤ 25)) : Int) = 0 from bI_f cm) ?_
    refine zV_jif_eq 31 dX4_ifLetter_16 rfl ⟨by decide, by decide⟩ (fun _ => ?_) (fun c_ => absurd c_ (by decide))
    refine zV_iconst (n := 0) dX4_ifLetter_31 ?_
    exact zV_ireturn dX4_ifLetter_32 rfl rfl ⟨_, rfl, i0.go0, fun e => absurd e (ma2_ne cm)⟩
theorem c_X4_pinCostNow (hM : MdL h o) (hP : gI h (o + 1) = P) (hw : pWf P) (p : Nat) (hp : p < 64) (v : Int) : zM G zX4_pinCostNow 7 [.ref o, .int (jI (p : Int)), .int (jI v)] h (zOkI (fun z h1 => z = bPr (pSet P (p + 107) 1) - v ∧ zCh [o + 3, o + 6, o + 7] o [14] h h1)) := by
  refine zM.ofV (lv := [(0, .ref o), (1, .int (jI ((p : Int)))), (2, .int (jI (v)))]) (by decide +kernel) (Nat.le_of_ble_eq_true rfl) rfl ?_
  refine zV_aload_n 0 dX4_pinCostNow_0 rfl rfl (Or.inr ⟨_, rfl⟩) ?_
  refine zV_jbipush dX4_pinCostNow_1 (by decide) ?_
  refine zV_iload_n 1 dX4_pinCostNow_3 rfl rfl ?_
  refine zV_jadd dX4_pinCostNow_4 ?_
  refine zV.eq (show (107 + (p : Int) : Int) = ((p + 107 : Nat) : Int) from by omega) ?_
  refine zV_iconst (n := 1) dX4_pinCostNow_5 ?_
  refine zc_V (y' := zX4_bestWith) (as := [.int (jI (((p + 107 : Nat) : Int))), .int (jI (1))]) (rest := []) (ci := 3) (q := (RX4, TX4, 27)) bX4_bestWith dX4_pinCostNow_6 q2465 q2467 qs126 (md_k hM) rfl (c_X4_bestWith hM hP (p + 107) 1 ⟨by decide, by decide⟩ (by omega) (pWf_pin hw (Or.inr rfl))) rfl rfl (by decide) (Nat.le_of_ble_eq_true rfl) (by decide) (zk_I (fun z h2 ⟨ez, j1⟩ _ => ?_))
  subst ez
  refine zV_iload_n 2 dX4_pinCostNow_9 rfl rfl ?_
  refine zV_jsub dX4_pinCostNow_10 ?_
  exact zV_ireturn dX4_pinCostNow_11 rfl rfl ⟨_, rfl, rfl, j1⟩
theorem c_X4_pinCost (hM : MdL h o) (hP : gI h (o + 1) = P) (hw : pWf P) (a : Int) (ha : jr a) : zM G zX4_pinCost 8 [.ref o, .int (jI a)] h (zAn o (ma1 (0 ≤ a ∧ a < P 0)) (bPr (pSet P (a.toNat + 107) 1) - bPr P) h) := by
  obtain ⟨w0, w0b, w1, w1b, w2, w2b, w3, w3b, w4, w4b, w5, w5b, wp, wl, wn⟩ := id hw
  refine zM.ofV (lv := [(0, .ref o), (1, .int (jI (a)))]) (by decide +kernel) (Nat.le_of_ble_eq_true rfl) rfl ?_
  refine zV_aload_n 0 dX4_pinCost_0 rfl rfl (Or.inr ⟨_, rfl⟩) ?_
  refine zV_aload_n 0 dX4_pinCost_1 rfl rfl (Or.inr ⟨_, rfl⟩) ?_
  refine zV_iload_n 1 dX4_pinCost_2 rfl rfl ?_
  refine zc_V (y' := zX4_isPlace) (as := [.int (jI (a))]) (rest := [.ref o]) (ci := 3) (q := (RX4, TX4, 27)) bX4_isPlace dX4_pinCost_3 q2256 q2258 qs90 (md_k hM) rfl (c_X4_isPlace hM hP hw a ha) rfl rfl (by decide) (Nat.le_of_ble_eq_true rfl) (by decide) (zk_J1 ?_)
  refine zc_V (y' := zX4_mayOne) (as := [.int (jI (bI (0 ≤ a ∧ a < P 0)))]) (rest := []) (ci := 3) (q := (RX4, TX4, 27)) bX4_mayOne dX4_pinCost_6 q2141 q2143 qs69 (md_k hM) rfl (c_X4_mayOne hM (0 ≤ a ∧ a < P 0)) rfl rfl (by decide) (Nat.le_of_ble_eq_true rfl) (by decide) (zk_I (fun z h1 ⟨ez, i0⟩ _ => ?_))
  subst ez
  have hM1 : MdL h1 o := hM.ch i0.1
  have hP1 : gI h1 (o + 1) = P := (i0.1.row (by simp)).trans hP
  by_cases cm : 0 ≤ a ∧ a < P 0
  · refine zV.eq (show (bI (0 ≤ a ∧ a < P 0) : Int) = 1 from bI_t cm) ?_
    refine zV_jif_eq 24 dX4_pinCost_9 rfl ⟨by decide, by decide⟩ (fun c_ => absurd c_ (by decide)) (fun _ => ?_)
    obtain ⟨p, rfl⟩ : ∃ n_ : Nat, a = (n_ : Int) := ⟨(a).toNat, by omega⟩
    refine zV_aload_n 0 dX4_pinCost_12 rfl rfl (Or.inr ⟨_, rfl⟩) ?_
    refine zV_iload_n 1 dX4_pinCost_13 rfl rfl ?_
    refine zV_aload_n 0 dX4_pinCost_14 rfl rfl (Or.inr ⟨_, rfl⟩) ?_
    refine zc_V (y' := zX4_laysRest) (as := []) (rest := [.int (jI (((p : Nat) : Int))), .ref o]) (ci := 3) (q := (RX4, TX4, 27)) bX4_laysRest dX4_pinCost_15 q2317 q2319 qs98 (md_k hM1) rfl (c_X4_laysRest hM1 hP1 hw) rfl rfl (by decide) (Nat.le_of_ble_eq_true rfl) (by decide) (zk_I (fun z h2 ⟨ez, j1, j2, j3⟩ _ => ?_))
    subst ez
    have hM2 : MdL h2 o := hM1.io j1
    have hP2 : gI h2 (o + 1) = P := (j1.row (by simp)).trans hP1
    have c1 : zCh [o + 3, o + 6, o + 7] o [14] h1 h2 := zCh.io (j1.mono (by simp)) (by simp)
    refine zc_V (y' := zX4_pinCostNow) (as := [.int (jI (((p : Nat) : Int))), .int (jI (bPr P))]) (rest := []) (ci := 3) (q := (RX4, TX4, 27)) bX4_pinCostNow dX4_pinCost_18 q2481 q2483 qs129 (md_k hM2) rfl (c_X4_pinCostNow hM2 hP2 hw p (by omega) _) rfl rfl (by decide) (Nat.le_of_ble_eq_true rfl) (by decide) (zk_I (fun z h3 ⟨ez, k1⟩ _ => ?_))
    subst ez
    refine zV_goto 25 dX4_pinCost_21 rfl ?_
    exact zV_ireturn dX4_pinCost_25 rfl rfl ⟨_, rfl, i0.go (c1.tr k1) (by simp) (by simp) (by simp), fun _ => rfl⟩
  · refine zV.eq (show (bI (0 ≤ a ∧ a < P 0) : Int) = 0 from bI_f cm) ?_
    refine zV_jif_eq 24 dX4_pinCost_9 rfl ⟨by decide, by decide⟩ (fun _ => ?_) (fun c_ => absurd c_ (by decide))
    refine zV_iconst (n := 0) dX4_pinCost_24 ?_
    exact zV_ireturn dX4_pinCost_25 rfl rfl ⟨_, rfl, i0.go0, fun e => absurd e (ma1_ne cm)⟩
/-- the costliest pin so far, and what it costs -/
def cpS (P : pRow) (k : Nat) (s : Int × Int) : Int × Int := if bPr (pSet P (k + 107) 1) - bPr P ≤ s.2 then s else ((k : Int), bPr (pSet P (k + 107) 1) - bPr P)
def vCp (P : pRow) : Int := (fU (cpS P) (P 0).toNat 0 (-1, -1)).1
theorem c_X4_costliestPin (hM : MdL h o) (hP : gI h (o + 1) = P) (hw : pWf P) : zM G zX4_costliestPin 8 [.ref o] h (zOkI (fun z h1 => z = vCp P ∧ zSc o h h1 ∧ gI h1 o 0 = 0)) := by
  obtain ⟨w0, w0b, w1, w1b, w2, w2b, w3, w3b, w4, w4b, w5, w5b, wp, wl, wn⟩ := id hw
  refine zM.ofV (lv := [(0, .ref o)]) (by decide +kernel) (Nat.le_of_ble_eq_true rfl) rfl ?_
  have hbB := bPr_b hw
  refine zV_aload_n 0 dX4_costliestPin_0 rfl rfl (Or.inr ⟨_, rfl⟩) ?_
  refine zV_iconst (n := 0) dX4_costliestPin_1 ?_
  refine zV_putI (x := jI (0)) (ci := 3) (q := (RX4, TX4, 27)) 0 dX4_costliestPin_2 q1917 (md_ge hM) (md_k hM) rfl (by decide) rfl (fun _ _ => rfl) rfl rfl (by decide) ?_
  have c0 : zCh [o + 3, o + 6, o + 7, o + 9, o + 10, o + 11] o [0, 14] h (sI h o 0 (jI 0)) := zCh.rf.puto (by simp)
  have t0 : gI (sI h o 0 (jI 0)) o 0 = 0 := gI_put_s ⟨by decide, by decide⟩
  generalize sI h o 0 (jI 0) = h0 at c0 t0 ⊢
  have hM0 := hM.ch c0
  have hP0 : gI h0 (o + 1) = P := (c0.row (by simp)).trans hP
  refine zV_aload_n 0 dX4_costliestPin_5 rfl rfl (Or.inr ⟨_, rfl⟩) ?_
  refine zc_V (y' := zX4_laysRest) (as := []) (rest := []) (ci := 3) (q := (RX4, TX4, 27)) bX4_laysRest dX4_costliestPin_6 q2317 q2319 qs98 (md_k hM0) rfl (c_X4_laysRest hM0 hP0 hw) rfl rfl (by decide) (Nat.le_of_ble_eq_true rfl) (by decide) (zk_I (fun z h2 ⟨ez, j1, _, _⟩ _ => ?_))
  subst ez
  have c2 : zCh [o + 3, o + 6, o + 7, o + 9, o + 10, o + 11] o [0, 14] h h2 := c0.tr (zCh.io (j1.mono (by simp)) (by simp))
  have t2 : gI h2 o 0 = 0 := (congrFun (j1.row (by simp)) 0).trans t0
  refine zV_istore_n (lv' := [(0, .ref o), (1, .int (jI (bPr P)))]) 1 dX4_costliestPin_9 rfl (by decide) rfl rfl ?_
  refine zV_iconst (n := (-1)) dX4_costliestPin_10 ?_
  refine zV_istore_n (lv' := [(0, .ref o), (1, .int (jI (bPr P))), (2, .int (jI (-1)))]) 2 dX4_costliestPin_11 rfl (by decide) rfl rfl ?_
  refine zV_iconst (n := (-1)) dX4_costliestPin_12 ?_
  refine zV_istore_n (lv' := [(0, .ref o), (1, .int (jI (bPr P))), (2, .int (jI (-1))), (3, .int (jI (-1)))]) 3 dX4_costliestPin_13 rfl (by decide) rfl rfl ?_
  refine zV_iconst (n := 0) dX4_costliestPin_14 ?_
  refine zV_istore (lv' := [(0, .ref o), (1, .int (jI (bPr P))), (2, .int (jI (-1))), (3, .int (jI (-1))), (4, .int (jI (0)))]) dX4_costliestPin_15 (by decide) rfl rfl ?_
  have key : ∀ f p : Nat, ∀ b m : Int, ∀ g : zH, (p : Int) + f = P 0 → -1 ≤ m → m ≤ 6000 → zCh [o + 3, o + 6, o + 7, o + 9, o + 10, o + 11] o [0, 14] h g → gI g o 0 = 0 → zV G zX4_costliestPin 8 17 [(0, .ref o), (1, .int (jI (bPr P))), (2, .int (jI ((b : Int)))), (3, .int (jI ((m : Int)))), (4, .int (jI (((p : Nat) : Int))))] [] g (zOkI (fun z h1 => z = (fU (cpS P) f p (b, m)).1 ∧ zSc o h h1 ∧ gI h1 o 0 = 0)) := by
    intro f
    induction f with
    | zero =>
      intro p b m g h1 h2 h3 i1 i2
      have hM2 : MdL g o := hM.ch i1
      have hP2 : gI g (o + 1) = P := (i1.row (by simp)).trans hP
      refine zV_iload dX4_costliestPin_17 rfl ?_
      refine zV_aload_n 0 dX4_costliestPin_19 rfl rfl (Or.inr ⟨_, rfl⟩) ?_
      refine zc_V (y' := zX4_many) (as := []) (rest := [.int (jI (((p : Nat) : Int)))]) (ci := 3) (q := (RX4, TX4, 27)) bX4_many dX4_costliestPin_20 q2042 q2044 qs50 (md_k hM2) rfl (c_X4_many hM2 hP2) rfl rfl (by decide) (Nat.le_of_ble_eq_true rfl) (by decide) (zk_J1 ?_)
      refine zV_jcmp_ge 56 dX4_costliestPin_23 rfl ⟨by omega, by omega⟩ (by rw [← hP2]; exact jr_toInt _) (fun c1 => ?_) (fun c_ => absurd c_ (by omega))
      refine zV_iload_n 2 dX4_costliestPin_56 rfl rfl ?_
      exact zV_ireturn dX4_costliestPin_57 rfl rfl ⟨_, rfl, rfl, i1.mono (by simp) (by simp), i2⟩
    | succ f ih =>
      intro p b m g h1 h2 h3 i1 i2
      have hM2 : MdL g o := hM.ch i1
      have hP2 : gI g (o + 1) = P := (i1.row (by simp)).trans hP
      refine zV_iload dX4_costliestPin_17 rfl ?_
      refine zV_aload_n 0 dX4_costliestPin_19 rfl rfl (Or.inr ⟨_, rfl⟩) ?_
      refine zc_V (y' := zX4_many) (as := []) (rest := [.int (jI (((p : Nat) : Int)))]) (ci := 3) (q := (RX4, TX4, 27)) bX4_many dX4_costliestPin_20 q2042 q2044 qs50 (md_k hM2) rfl (c_X4_many hM2 hP2) rfl rfl (by decide) (Nat.le_of_ble_eq_true rfl) (by decide) (zk_J1 ?_)
      refine zV_jcmp_ge 56 dX4_costliestPin_23 rfl ⟨by omega, by omega⟩ (by rw [← hP2]; exact jr_toInt _) (fun c_ => absurd c_ (by omega)) (fun c1 => ?_)
      refine zV_aload_n 0 dX4_costliestPin_26 rfl rfl (Or.inr ⟨_, rfl⟩) ?_
      refine zV_iload dX4_costliestPin_27 rfl ?_
      refine zV_iload_n 1 dX4_costliestPin_29 rfl rfl ?_
      have hpb := bPr_b (pWf_pin (p := p) hw (Or.inr rfl : (1 : Int) = 0 ∨ (1 : Int) = 1))
      refine zc_V (y' := zX4_pinCostNow) (as := [.int (jI (((p : Nat) : Int))), .int (jI (bPr P))]) (rest := []) (ci := 3) (q := (RX4, TX4, 27)) bX4_pinCostNow dX4_costliestPin_30 q2481 q2483 qs129 (md_k hM2) rfl (c_X4_pinCostNow hM2 hP2 hw p (by omega) _) rfl rfl (by decide) (Nat.le_of_ble_eq_true rfl) (by decide) (zk_I (fun z g2 ⟨ez, k1⟩ _ => ?_))
      subst ez
      refine zV_istore (lv' := [(0, .ref o), (1, .int (jI (bPr P))), (2, .int (jI ((b : Int)))), (3, .int (jI ((m : Int)))), (4, .int (jI (((p : Nat) : Int)))), (5, .int (jI (bPr (pSet P (p + 107) 1) - bPr P)))]) dX4_costliestPin_33 (by decide) rfl rfl ?_
      refine zV_iload dX4_costliestPin_35 rfl ?_
      refine zV_iload_n 3 dX4_costliestPin_37 rfl rfl ?_
      refine zV_jcmp_gt 44 dX4_costliestPin_38 rfl ⟨by omega, by omega⟩ ⟨by omega, by omega⟩ (fun c2 => ?_) (fun c2 => ?_)
      · refine zV_iload dX4_costliestPin_44 rfl ?_
        refine zV_istore_n (lv' := [(0, .ref o), (1, .int (jI (bPr P))), (2, .int (jI (((p : Nat) : Int)))), (3, .int (jI ((m : Int)))), (4, .int (jI (((p : Nat) : Int)))), (5, .int (jI (bPr (pSet P (p + 107) 1) - bPr P)))]) 2 dX4_costliestPin_46 rfl (by decide) rfl rfl ?_
        refine zV_iload dX4_costliestPin_47 rfl ?_
        refine zV_istore_n (lv' := [(0, .ref o), (1, .int (jI (bPr P))), (2, .int (jI (((p : Nat) : Int)))), (3, .int (jI (bPr (pSet P (p + 107) 1) - bPr P))), (4, .int (jI (((p : Nat) : Int)))), (5, .int (jI (bPr (pSet P (p + 107) 1) - bPr P)))]) 3 dX4_costliestPin_49 rfl (by decide) rfl rfl ?_
        refine zV_jinc (lv' := [(0, .ref o), (1, .int (jI (bPr P))), (2, .int (jI (((p : Nat) : Int)))), (3, .int (jI (bPr (pSet P (p + 107) 1) - bPr P))), (4, .int (jI (((p : Nat) : Int) + 1))), (5, .int (jI (bPr (pSet P (p + 107) 1) - bPr P)))]) dX4_costliestPin_50 rfl (by decide) rfl rfl ?_
        refine zV_goto 17 dX4_costliestPin_53 rfl ?_
        refine zV.loc (lv' := [(0, .ref o), (1, .int (jI (bPr P))), (2, .int (jI (((p : Nat) : Int)))), (3, .int (jI (bPr (pSet P (p + 107) 1) - bPr P))), (4, .int (jI (((p : Nat) : Int) + 1)))]) (fun q_ hq_ => (List.Sublist.cons₂ _ (List.Sublist.cons₂ _ (List.Sublist.cons₂ _ (List.Sublist.cons₂ _ (List.Sublist.cons₂ _ (List.Sublist.cons _ List.Sublist.slnil)))))).subset hq_) ?_
        rw [show (((p : Nat) : Int) + 1 : Int) = ((p + 1 : Nat) : Int) from by omega]
        rw [fU_s, show cpS P p (b, m) = ((p : Int), bPr (pSet P (p + 107) 1) - bPr P) from if_neg (by show ¬ _ ≤ m; omega)]
        exact ih (p + 1) _ _ g2 (by omega) (by omega) (by omega) (i1.tr (k1.mono (by simp) (by simp))) ((k1.2 0 (by simp)).trans i2)
      · refine zV_goto 50 dX4_costliestPin_41 rfl ?_
        refine zV_jinc (lv' := [(0, .ref o), (1, .int (jI (bPr P))), (2, .int (jI ((b : Int)))), (3, .int (jI ((m : Int)))), (4, .int (jI (((p : Nat) : Int) + 1))), (5, .int (jI (bPr (pSet P (p + 107) 1) - bPr P)))]) dX4_costliestPin_50 rfl (by decide) rfl rfl ?_
        refine zV_goto 17 dX4_costliestPin_53 rfl ?_
        refine zV.loc (lv' := [(0, .ref o), (1, .int (jI (bPr P))), (2, .int (jI ((b : Int)))), (3, .int (jI ((m : Int)))), (4, .int (jI (((p : Nat) : Int) + 1)))]) (fun q_ hq_ => (List.Sublist.cons₂ _ (List.Sublist.cons₂ _ (List.Sublist.cons₂ _ (List.Sublist.cons₂ _ (List.Sublist.cons₂ _ (List.Sublist.cons _ List.Sublist.slnil)))))).subset hq_) ?_
        rw [show (((p : Nat) : Int) + 1 : Int) = ((p + 1 : Nat) : Int) from by omega]
        rw [fU_s, show cpS P p (b, m) = (b, m) from if_pos c2]
        exact ih (p + 1) b m g2 (by omega) h2 h3 (i1.tr (k1.mono (by simp) (by simp))) ((k1.2 0 (by simp)).trans i2)
  exact key (P 0).toNat 0 (-1) (-1) h2 (by omega) (by decide) (by decide) c2 t2
theorem c_X4_leastOf (k : Nat) (hk : k < 5) : zM G zX4_leastOf 0 [.int (jI (k : Int))] h (zJ h (some (.int (jI ((lsO k : Nat) : Int))))) := by
  refine zM.ofV (lv := [(0, .int (jI (((k : Nat) : Int))))]) (by decide +kernel) (Nat.le_of_ble_eq_true rfl) rfl ?_
  rcases (show k = 0 ∨ k = 1 ∨ k = 2 ∨ k = 3 ∨ k = 4 from by omega) with rfl | rfl | rfl | rfl | rfl
  · refine zV_iload_n 0 dX4_leastOf_0 rfl rfl ?_
    refine zV_iconst (n := 2) dX4_leastOf_1 ?_
    refine zV_jcmp_ne 9 dX4_leastOf_2 rfl ⟨by omega, by omega⟩ ⟨by decide, by decide⟩ (fun c => ?_) (fun c_ => absurd c_ (by omega))
    refine zV_iload_n 0 dX4_leastOf_9 rfl rfl ?_
    refine zV_iconst (n := 3) dX4_leastOf_10 ?_
    refine zV_jcmp_ne 18 dX4_leastOf_11 rfl ⟨by omega, by omega⟩ ⟨by decide, by decide⟩ (fun c => ?_) (fun c_ => absurd c_ (by omega))
    refine zV_iconst (n := 1) dX4_leastOf_18 ?_
    exact zV_ireturn dX4_leastOf_19 rfl rfl ⟨rfl, rfl⟩
  · refine zV_iload_n 0 dX4_leastOf_0 rfl rfl ?_
    refine zV_iconst (n := 2) dX4_leastOf_1 ?_
    refine zV_jcmp_ne 9 dX4_leastOf_2 rfl ⟨by omega, by omega⟩ ⟨by decide, by decide⟩ (fun c => ?_) (fun c_ => absurd c_ (by omega))
    refine zV_iload_n 0 dX4_leastOf_9 rfl rfl ?_
    refine zV_iconst (n := 3) dX4_leastOf_10 ?_
    refine zV_jcmp_ne 18 dX4_leastOf_11 rfl ⟨by omega, by omega⟩ ⟨by decide, by decide⟩ (fun c => ?_) (fun c_ => absurd c_ (by omega))
    refine zV_iconst (n := 1) dX4_leastOf_18 ?_
    exact zV_ireturn dX4_leastOf_19 rfl rfl ⟨rfl, rfl⟩
  · refine zV_iload_n 0 dX4_leastOf_0 rfl rfl ?_
    refine zV_iconst (n := 2) dX4_leastOf_1 ?_
    refine zV_jcmp_ne 9 dX4_leastOf_2 rfl ⟨by omega, by omega⟩ ⟨by decide, by decide⟩ (fun c_ => absurd c_ (by omega)) (fun c => ?_)
    refine zV_iconst (n := 2) dX4_leastOf_5 ?_
    refine zV_goto 19 dX4_leastOf_6 rfl ?_
    exact zV_ireturn dX4_leastOf_19 rfl rfl ⟨rfl, rfl⟩
  · refine zV_iload_n 0 dX4_leastOf_0 rfl rfl ?_
    refine zV_iconst (n := 2) dX4_leastOf_1 ?_
    refine zV_jcmp_ne 9 dX4_leastOf_2 rfl ⟨by omega, by omega⟩ ⟨by decide, by decide⟩ (fun c => ?_) (fun c_ => absurd c_ (by omega))
    refine zV_iload_n 0 dX4_leastOf_9 rfl rfl ?_
    refine zV_iconst (n := 3) dX4_leastOf_10 ?_
    refine zV_jcmp_ne 18 dX4_leastOf_11 rfl ⟨by omega, by omega⟩ ⟨by decide, by decide⟩ (fun c_ => absurd c_ (by omega)) (fun c => ?_)
    refine zV_iconst (n := 4) dX4_leastOf_14 ?_
    refine zV_goto 19 dX4_leastOf_15 rfl ?_
    exact zV_ireturn dX4_leastOf_19 rfl rfl ⟨rfl, rfl⟩
  · refine zV_iload_n 0 dX4_leastOf_0 rfl rfl ?_
    refine zV_iconst (n := 2) dX4_leastOf_1 ?_
    refine zV_jcmp_ne 9 dX4_leastOf_2 rfl ⟨by omega, by omega⟩ ⟨by decide, by decide⟩ (fun c => ?_) (fun c_ => absurd c_ (by omega))
    refine zV_iload_n 0 dX4_leastOf_9 rfl rfl ?_
    refine zV_iconst (n := 3) dX4_leastOf_10 ?_
    refine zV_jcmp_ne 18 dX4_leastOf_11 rfl ⟨by omega, by omega⟩ ⟨by decide, by decide⟩ (fun c => ?_) (fun c_ => absurd c_ (by omega))
    refine zV_iconst (n := 1) dX4_leastOf_18 ?_
    exact zV_ireturn dX4_leastOf_19 rfl rfl ⟨rfl, rfl⟩
theorem c_X4_mostOf (k : Nat) (hk : k < 5) : zM G zX4_mostOf 0 [.int (jI (k : Int))] h (zJ h (some (.int (jI ((msO k : Nat) : Int))))) := by
  refine zM.ofV (lv := [(0, .int (jI (((k : Nat) : Int))))]) (by decide +kernel) (Nat.le_of_ble_eq_true rfl) rfl ?_
  rcases (show k = 0 ∨ k = 1 ∨ k = 2 ∨ k = 3 ∨ k = 4 from by omega) with rfl | rfl | rfl | rfl | rfl
  · refine zV_iload_n 0 dX4_mostOf_0 rfl rfl ?_
    refine zV_jtableIn 0 32 dX4_mostOf_1 ⟨by omega, by omega⟩ (by omega) (by omega) rfl rfl ?_
    refine zV_jbipush dX4_mostOf_32 (by decide) ?_
    exact zV_ireturn dX4_mostOf_34 rfl rfl ⟨rfl, rfl⟩
  · refine zV_iload_n 0 dX4_mostOf_0 rfl rfl ?_
    refine zV_jtableIn 1 35 dX4_mostOf_1 ⟨by omega, by omega⟩ (by omega) (by omega) rfl rfl ?_
    refine zV_jbipush dX4_mostOf_35 (by decide) ?_
    exact zV_ireturn dX4_mostOf_37 rfl rfl ⟨rfl, rfl⟩
  · refine zV_iload_n 0 dX4_mostOf_0 rfl rfl ?_
    refine zV_jtableIn 2 38 dX4_mostOf_1 ⟨by omega, by omega⟩ (by omega) (by omega) rfl rfl ?_
    refine zV_iconst (n := 4) dX4_mostOf_38 ?_
    exact zV_ireturn dX4_mostOf_39 rfl rfl ⟨rfl, rfl⟩
  · refine zV_iload_n 0 dX4_mostOf_0 rfl rfl ?_
    refine zV_jtableIn 3 40 dX4_mostOf_1 ⟨by omega, by omega⟩ (by omega) (by omega) rfl rfl ?_
    refine zV_jbipush dX4_mostOf_40 (by decide) ?_
    exact zV_ireturn dX4_mostOf_42 rfl rfl ⟨rfl, rfl⟩
  · refine zV_iload_n 0 dX4_mostOf_0 rfl rfl ?_
    refine zV_jtableOut 43 dX4_mostOf_1 ⟨by omega, by omega⟩ (by omega) rfl ?_
    refine zV_jbipush dX4_mostOf_43 (by decide) ?_
    exact zV_ireturn dX4_mostOf_45 rfl rfl ⟨rfl, rfl⟩
def bwS (P : pRow) (v : Nat) (s : Int × Int) : Int × Int := if s.2 ≤ qS (pSet P 5 v) 2 then s else ((v : Int), qS (pSet P 5 v) 2)
def vBw (P : pRow) : Int := (fU (bwS P) 7 2 (1, qS (pSet P 5 ((1 : Nat) : Int)) 2)).1
theorem c_X4_bestWait (hM : MdL h o) (hP : gI h (o + 1) = P) (hw : pWf P) : zM G zX4_bestWait 9 [.ref o] h (zOkI (fun z h1 => z = vBw P ∧ zSc o h h1 ∧ gI h1 o 0 = 0)) := by
  obtain ⟨w0, w0b, w1, w1b, w2, w2b, w3, w3b, w4, w4b, w5, w5b, wp, wl, wn⟩ := id hw
  refine zM.ofV (lv := [(0, .ref o)]) (by decide +kernel) (Nat.le_of_ble_eq_true rfl) rfl ?_
  refine zV_aload_n 0 dX4_bestWait_0 rfl rfl (Or.inr ⟨_, rfl⟩) ?_
  refine zV_iconst (n := 0) dX4_bestWait_1 ?_
  refine zV_putI (x := jI (0)) (ci := 3) (q := (RX4, TX4, 27)) 0 dX4_bestWait_2 q1917 (md_ge hM) (md_k hM) rfl (by decide) rfl (fun _ _ => rfl) rfl rfl (by decide) ?_
  have c0 : zCh [o + 3, o + 6, o + 7, o + 9, o + 10, o + 11] o [0, 14] h (sI h o 0 (jI 0)) := zCh.rf.puto (by simp)
  have t0 : gI (sI h o 0 (jI 0)) o 0 = 0 := gI_put_s ⟨by decide, by decide⟩
  generalize sI h o 0 (jI 0) = h0 at c0 t0 ⊢
  have hM0 := hM.ch c0
  have hP0 : gI h0 (o + 1) = P := (c0.row (by simp)).trans hP
  refine zV_iconst (n := 1) dX4_bestWait_5 ?_
  refine zV_istore_n (lv' := [(0, .ref o), (1, .int (jI (1)))]) 1 dX4_bestWait_6 rfl (by decide) rfl rfl ?_
  refine zV_aload_n 0 dX4_bestWait_7 rfl rfl (Or.inr ⟨_, rfl⟩) ?_
  refine zV_iconst (n := 1) dX4_bestWait_8 ?_
  refine zV.eq (show (1 : Int) = ((1 : Nat) : Int) from rfl) ?_
  have hw1 : pWf (pSet P 5 ((1 : Nat) : Int)) := pWf_set4 hw ⟨by decide, by decide⟩
  have hs1 := qS_b hw1 2
  refine zc_V (y' := zX4_waitingWith) (as := [.int (jI (((1 : Nat) : Int)))]) (rest := []) (ci := 3) (q := (RX4, TX4, 27)) bX4_waitingWith dX4_bestWait_9 q2497 q2499 qs130 (md_k hM0) rfl (c_X4_waitingWith hM0 hP0 _ ⟨by decide, by decide⟩ hw1) rfl rfl (by decide) (Nat.le_of_ble_eq_true rfl) (by decide) (zk_I (fun z h2 ⟨ez, j1⟩ _ => ?_))
  subst ez
  have c2 : zCh [o + 3, o + 6, o + 7, o + 9, o + 10, o + 11] o [0, 14] h h2 := c0.tr (j1.mono (by simp) (by simp))
  have t2 : gI h2 o 0 = 0 := (j1.2 0 (by simp)).trans t0
  refine zV_istore_n (lv' := [(0, .ref o), (1, .int (jI (1))), (2, .int (jI (qS (pSet P 5 ((1 : Nat) : Int)) 2)))]) 2 dX4_bestWait_12 rfl (by decide) rfl rfl ?_
  refine zV_iconst (n := 2) dX4_bestWait_13 ?_
  refine zV_istore_n (lv' := [(0, .ref o), (1, .int (jI (1))), (2, .int (jI (qS (pSet P 5 ((1 : Nat) : Int)) 2))), (3, .int (jI (2)))]) 3 dX4_bestWait_14 rfl (by decide) rfl rfl ?_
  have key : ∀ f v : Nat, ∀ b m : Int, ∀ g : zH, v + f = 9 → 2 ≤ v → 0 ≤ m → m ≤ 40000 → zCh [o + 3, o + 6, o + 7, o + 9, o + 10, o + 11] o [0, 14] h g → gI g o 0 = 0 → zV G zX4_bestWait 9 15 [(0, .ref o), (1, .int (jI ((b : Int)))), (2, .int (jI ((m : Int)))), (3, .int (jI (((v : Nat) : Int))))] [] g (zOkI (fun z h1 => z = (fU (bwS P) f v (b, m)).1 ∧ zSc o h h1 ∧ gI h1 o 0 = 0)) := by
    intro f
    induction f with
    | zero =>
      intro v b m g h1 h2 h3 h4 i1 i2
      have hM2 : MdL g o := hM.ch i1
      have hP2 : gI g (o + 1) = P := (i1.row (by simp)).trans hP
      refine zV_iload_n 3 dX4_bestWait_15 rfl rfl ?_
      refine zV_iconst (n := 4) dX4_bestWait_16 ?_
      refine zc_S (y' := zX4_mostOf) (as := [.int (jI (4))]) (rest := [.int (jI (((v : Nat) : Int)))]) bX4_mostOf dX4_bestWait_17 q2117 q2118 (c_X4_mostOf 4 (by decide)) rfl rfl (by decide) (Nat.le_of_ble_eq_true rfl) (zk_J1 ?_)
      refine zV.eq (show (((msO 4 : Nat) : Int) : Int) = 8 from rfl) ?_
      refine zV_jcmp_gt 50 dX4_bestWait_20 rfl ⟨by omega, by omega⟩ ⟨by decide, by decide⟩ (fun c1 => ?_) (fun c_ => absurd c_ (by omega))
      refine zV_iload_n 1 dX4_bestWait_50 rfl rfl ?_
      exact zV_ireturn dX4_bestWait_51 rfl rfl ⟨_, rfl, rfl, i1.mono (by simp) (by simp), i2⟩
    | succ f ih =>
      intro v b m g h1 h2 h3 h4 i1 i2
      have hM2 : MdL g o := hM.ch i1
      have hP2 : gI g (o + 1) = P := (i1.row (by simp)).trans hP
      refine zV_iload_n 3 dX4_bestWait_15 rfl rfl ?_
      refine zV_iconst (n := 4) dX4_bestWait_16 ?_
      refine zc_S (y' := zX4_mostOf) (as := [.int (jI (4))]) (rest := [.int (jI (((v : Nat) : Int)))]) bX4_mostOf dX4_bestWait_17 q2117 q2118 (c_X4_mostOf 4 (by decide)) rfl rfl (by decide) (Nat.le_of_ble_eq_true rfl) (zk_J1 ?_)
      refine zV.eq (show (((msO 4 : Nat) : Int) : Int) = 8 from rfl) ?_
      refine zV_jcmp_gt 50 dX4_bestWait_20 rfl ⟨by omega, by omega⟩ ⟨by decide, by decide⟩ (fun c_ => absurd c_ (by omega)) (fun c1 => ?_)
      refine zV_aload_n 0 dX4_bestWait_23 rfl rfl (Or.inr ⟨_, rfl⟩) ?_
      refine zV_iload_n 3 dX4_bestWait_24 rfl rfl ?_
      have hwv : pWf (pSet P 5 ((v : Nat) : Int)) := pWf_set4 hw ⟨by omega, by omega⟩
      have hsv := qS_b hwv 2
      refine zc_V (y' := zX4_waitingWith) (as := [.int (jI (((v : Nat) : Int)))]) (rest := []) (ci := 3) (q := (RX4, TX4, 27)) bX4_waitingWith dX4_bestWait_25 q2497 q2499 qs130 (md_k hM2) rfl (c_X4_waitingWith hM2 hP2 _ ⟨by omega, by omega⟩ hwv) rfl rfl (by decide) (Nat.le_of_ble_eq_true rfl) (by decide) (zk_I (fun z g2 ⟨ez, k1⟩ _ => ?_))
      subst ez
      refine zV_istore (lv' := [(0, .ref o), (1, .int (jI ((b : Int)))), (2, .int (jI ((m : Int)))), (3, .int (jI (((v : Nat) : Int)))), (4, .int (jI (qS (pSet P 5 ((v : Nat) : Int)) 2)))]) dX4_bestWait_28 (by decide) rfl rfl ?_
      refine zV_iload dX4_bestWait_30 rfl ?_
      refine zV_iload_n 2 dX4_bestWait_32 rfl rfl ?_
      refine zV_jcmp_lt 39 dX4_bestWait_33 rfl ⟨by omega, by omega⟩ ⟨by omega, by omega⟩ (fun c2 => ?_) (fun c2 => ?_)
      · refine zV_iload_n 3 dX4_bestWait_39 rfl rfl ?_
        refine zV_istore_n (lv' := [(0, .ref o), (1, .int (jI (((v : Nat) : Int)))), (2, .int (jI ((m : Int)))), (3, .int (jI (((v : Nat) : Int)))), (4, .int (jI (qS (pSet P 5 ((v : Nat) : Int)) 2)))]) 1 dX4_bestWait_40 rfl (by decide) rfl rfl ?_
        refine zV_iload dX4_bestWait_41 rfl ?_
        refine zV_istore_n (lv' := [(0, .ref o), (1, .int (jI (((v : Nat) : Int)))), (2, .int (jI (qS (pSet P 5 ((v : Nat) : Int)) 2))), (3, .int (jI (((v : Nat) : Int)))), (4, .int (jI (qS (pSet P 5 ((v : Nat) : Int)) 2)))]) 2 dX4_bestWait_43 rfl (by decide) rfl rfl ?_
        refine zV_jinc (lv' := [(0, .ref o), (1, .int (jI (((v : Nat) : Int)))), (2, .int (jI (qS (pSet P 5 ((v : Nat) : Int)) 2))), (3, .int (jI (((v : Nat) : Int) + 1))), (4, .int (jI (qS (pSet P 5 ((v : Nat) : Int)) 2)))]) dX4_bestWait_44 rfl (by decide) rfl rfl ?_
        refine zV_goto 15 dX4_bestWait_47 rfl ?_
        refine zV.loc (lv' := [(0, .ref o), (1, .int (jI (((v : Nat) : Int)))), (2, .int (jI (qS (pSet P 5 ((v : Nat) : Int)) 2))), (3, .int (jI (((v : Nat) : Int) + 1)))]) (fun q_ hq_ => (List.Sublist.cons₂ _ (List.Sublist.cons₂ _ (List.Sublist.cons₂ _ (List.Sublist.cons₂ _ (List.Sublist.cons _ List.Sublist.slnil))))).subset hq_) ?_
        rw [show (((v : Nat) : Int) + 1 : Int) = ((v + 1 : Nat) : Int) from by omega]
        rw [fU_s, show bwS P v (b, m) = ((v : Int), qS (pSet P 5 ((v : Nat) : Int)) 2) from if_neg (by show ¬ m ≤ _; omega)]
        exact ih (v + 1) _ _ g2 (by omega) (by omega) (by omega) (by omega) (i1.tr (k1.mono (by simp) (by simp))) ((k1.2 0 (by simp)).trans i2)
      · refine zV_goto 44 dX4_bestWait_36 rfl ?_
        refine zV_jinc (lv' := [(0, .ref o), (1, .int (jI ((b : Int)))), (2, .int (jI ((m : Int)))), (3, .int (jI (((v : Nat) : Int) + 1))), (4, .int (jI (qS (pSet P 5 ((v : Nat) : Int)) 2)))]) dX4_bestWait_44 rfl (by decide) rfl rfl ?_
        refine zV_goto 15 dX4_bestWait_47 rfl ?_
        refine zV.loc (lv' := [(0, .ref o), (1, .int (jI ((b : Int)))), (2, .int (jI ((m : Int)))), (3, .int (jI (((v : Nat) : Int) + 1)))]) (fun q_ hq_ => (List.Sublist.cons₂ _ (List.Sublist.cons₂ _ (List.Sublist.cons₂ _ (List.Sublist.cons₂ _ (List.Sublist.cons _ List.Sublist.slnil))))).subset hq_) ?_
        rw [show (((v : Nat) : Int) + 1 : Int) = ((v + 1 : Nat) : Int) from by omega]
        rw [fU_s, show bwS P v (b, m) = (b, m) from if_pos (by show m ≤ _; omega)]
        exact ih (v + 1) _ _ g2 (by omega) (by omega) (by omega) (by omega) (i1.tr (k1.mono (by simp) (by simp))) ((k1.2 0 (by simp)).trans i2)
  exact key 7 2 1 _ h2 (by decide) (by decide) (by omega) (by omega) c2 t2
end M15
