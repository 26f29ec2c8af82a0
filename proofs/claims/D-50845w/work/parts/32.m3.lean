/-! ===== THE MODEL, 3: copies (printed by a program of gen/) ===== -/
set_option maxRecDepth 100000
section M3
variable {G : zG} {h : zH} {o : Nat} {P : pRow}
theorem c_X4_isIn (a b c : Int) (ha : jr a) (hb : jr b) (hc : jr c) : zM G zX4_isIn 0 [.int (jI a), .int (jI b), .int (jI c)] h (zJ h (some (.int (jI (bI (b ≤ a ∧ a ≤ c)))))) := by
  have ha1 := ha.1; have ha2 := ha.2; have hb1 := hb.1; have hb2 := hb.2; have hc1 := hc.1; have hc2 := hc.2
  refine zM.ofV (lv := [(0, .int (jI (a))), (1, .int (jI (b))), (2, .int (jI (c)))]) (by decide +kernel) (Nat.le_of_ble_eq_true rfl) rfl ?_
  refine zV_iload_n 0 dX4_isIn_0 rfl rfl ?_
  refine zV_iload_n 1 dX4_isIn_1 rfl rfl ?_
  refine zV_jcmp_lt 14 dX4_isIn_2 rfl ⟨by omega, by omega⟩ ⟨by omega, by omega⟩ (fun c1 => ?_) (fun c1 => ?_)
  · refine zV_iconst (n := 0) dX4_isIn_14 ?_
    exact zV_ireturn dX4_isIn_15 rfl rfl ⟨by rw [bI_f (fun z => by omega)], rfl⟩
  · refine zV_iload_n 0 dX4_isIn_5 rfl rfl ?_
    refine zV_iload_n 2 dX4_isIn_6 rfl rfl ?_
    refine zV_jcmp_gt 14 dX4_isIn_7 rfl ⟨by omega, by omega⟩ ⟨by omega, by omega⟩ (fun c2 => ?_) (fun c2 => ?_)
    · refine zV_iconst (n := 0) dX4_isIn_14 ?_
      exact zV_ireturn dX4_isIn_15 rfl rfl ⟨by rw [bI_f (fun z => by omega)], rfl⟩
    · refine zV_iconst (n := 1) dX4_isIn_10 ?_
      refine zV_goto 15 dX4_isIn_11 rfl ?_
      exact zV_ireturn dX4_isIn_15 rfl rfl ⟨by rw [bI_t ⟨c1, c2⟩], rfl⟩
theorem c_X4_chainAt (hM : MdL h o) (hP : gI h (o + 1) = P) (hw : pWf P) (p i : Nat) (hp : p < 64) (hi : i < 100) : zM G zX4_chainAt 2 [.ref o, .int (jI (p : Int)), .int (jI (i : Int))] h (zJ h (some (.int (jI (chA P p (pE P p) p i))))) := by
  obtain ⟨w0, w0b, w1, w1b, w2, w2b, w3, w3b, w4, w4b, w5, w5b, wp, wl, wn⟩ := id hw
  refine zM.ofV (lv := [(0, .ref o), (1, .int (jI ((p : Int)))), (2, .int (jI ((i : Int))))]) (by decide +kernel) (Nat.le_of_ble_eq_true rfl) rfl ?_
  refine zV_iload_n 2 dX4_chainAt_0 rfl rfl ?_
  refine zV_istore_n (lv' := [(0, .ref o), (1, .int (jI ((p : Int)))), (2, .int (jI ((i : Int)))), (3, .int (jI ((i : Int))))]) 3 dX4_chainAt_1 rfl (by decide) rfl rfl ?_
  refine zV_iload_n 1 dX4_chainAt_2 rfl rfl ?_
  refine zV_iconst (n := 1) dX4_chainAt_3 ?_
  refine zV_jsub dX4_chainAt_4 ?_
  refine zV_istore (lv' := [(0, .ref o), (1, .int (jI ((p : Int)))), (2, .int (jI ((i : Int)))), (3, .int (jI ((i : Int)))), (4, .int (jI ((p : Int) - 1)))]) dX4_chainAt_5 (by decide) rfl rfl ?_
  have key : ∀ k j : Nat, pE P p ≤ k → k ≤ p → j < 100 → zV G zX4_chainAt 2 7 [(0, .ref o), (1, .int (jI ((p : Int)))), (2, .int (jI ((i : Int)))), (3, .int (jI ((j : Int)))), (4, .int (jI (((k : Nat) : Int) - 1)))] [] h (zJ h (some (.int (jI (chA P p (pE P p) k j))))) := by
    intro k
    induction k with
    | zero =>
      intro j h1 h2 h3
      refine zV_iload dX4_chainAt_7 rfl ?_
      refine zV_aload_n 0 dX4_chainAt_9 rfl rfl (Or.inr ⟨_, rfl⟩) ?_
      refine zV_iload_n 1 dX4_chainAt_10 rfl rfl ?_
      refine zc_V (y' := zX4_earliest) (as := [.int (jI ((p : Int)))]) (rest := [.int (jI (((0 : Nat) : Int) - 1))]) (ci := 3) (q := (RX4, TX4, 27)) bX4_earliest dX4_chainAt_11 q2165 q2167 qs75 (md_k hM) rfl (c_X4_earliest hM hP hw p hp) rfl rfl (by decide) (Nat.le_of_ble_eq_true rfl) (by decide) (zk_J1 ?_)
      refine zV_jcmp_lt 47 dX4_chainAt_14 rfl ⟨by omega, by omega⟩ ⟨by omega, by omega⟩ (fun c1 => ?_) (fun c_ => absurd c_ (by omega))
      refine zV_iconst (n := (-1)) dX4_chainAt_47 ?_
      exact zV_ireturn dX4_chainAt_48 rfl rfl ⟨rfl, rfl⟩
    | succ k ih =>
      intro j h1 h2 h3
      refine zV_iload dX4_chainAt_7 rfl ?_
      refine zV_aload_n 0 dX4_chainAt_9 rfl rfl (Or.inr ⟨_, rfl⟩) ?_
      refine zV_iload_n 1 dX4_chainAt_10 rfl rfl ?_
      refine zc_V (y' := zX4_earliest) (as := [.int (jI ((p : Int)))]) (rest := [.int (jI (((k + 1 : Nat) : Int) - 1))]) (ci := 3) (q := (RX4, TX4, 27)) bX4_earliest dX4_chainAt_11 q2165 q2167 qs75 (md_k hM) rfl (c_X4_earliest hM hP hw p hp) rfl rfl (by decide) (Nat.le_of_ble_eq_true rfl) (by decide) (zk_J1 ?_)
      refine zV_jcmp_lt 47 dX4_chainAt_14 rfl ⟨by omega, by omega⟩ ⟨by omega, by omega⟩ (fun c1 => ?_) (fun c1 => ?_)
      · refine zV_iconst (n := (-1)) dX4_chainAt_47 ?_
        exact zV_ireturn dX4_chainAt_48 rfl rfl ⟨by rw [chA, if_pos (by omega)], rfl⟩
      · refine zV_aload_n 0 dX4_chainAt_17 rfl rfl (Or.inr ⟨_, rfl⟩) ?_
        refine zV_iload_n 1 dX4_chainAt_18 rfl rfl ?_
        refine zV_iload dX4_chainAt_19 rfl ?_
        refine zV.eq (show (((k + 1 : Nat) : Int) - 1 : Int) = ((k : Nat) : Int) from by omega) ?_
        refine zc_V (y' := zX4_isLink) (as := [.int (jI ((p : Int))), .int (jI (((k : Nat) : Int)))]) (rest := []) (ci := 3) (q := (RX4, TX4, 27)) bX4_isLink dX4_chainAt_21 q2172 q2174 qs76 (md_k hM) rfl (c_X4_isLink hM hP p k hp (by omega)) rfl rfl (by decide) (Nat.le_of_ble_eq_true rfl) (by decide) (zk_J1 ?_)
        by_cases cL : isLk P p k
        · refine zV.eq (show (bI (isLk P p k) : Int) = 1 from bI_t cL) ?_
          refine zV_jif_ne 30 dX4_chainAt_24 rfl ⟨by decide, by decide⟩ (fun _ => ?_) (fun c_ => absurd c_ (by decide))
          refine zV_iload_n 3 dX4_chainAt_30 rfl rfl ?_
          refine zV_jif_ne 37 dX4_chainAt_31 rfl ⟨by omega, by omega⟩ (fun c2 => ?_) (fun c2 => ?_)
          · refine zV_iload_n 3 dX4_chainAt_37 rfl rfl ?_
            refine zV_iconst (n := 1) dX4_chainAt_38 ?_
            refine zV_jsub dX4_chainAt_39 ?_
            refine zV_istore_n (lv' := [(0, .ref o), (1, .int (jI ((p : Int)))), (2, .int (jI ((i : Int)))), (3, .int (jI ((j : Int) - 1))), (4, .int (jI (((k + 1 : Nat) : Int) - 1)))]) 3 dX4_chainAt_40 rfl (by decide) rfl rfl ?_
            refine zV_jinc (lv' := [(0, .ref o), (1, .int (jI ((p : Int)))), (2, .int (jI ((i : Int)))), (3, .int (jI ((j : Int) - 1))), (4, .int (jI ((((k + 1 : Nat) : Int) - 1) + (-1))))]) dX4_chainAt_41 rfl (by decide) rfl rfl ?_
            refine zV_goto 7 dX4_chainAt_44 rfl ?_
            rw [show ((j : Int) - 1 : Int) = ((j - 1 : Nat) : Int) from by omega]
            rw [show ((((k + 1 : Nat) : Int) - 1) + (-1) : Int) = ((k : Nat) : Int) - 1 from by omega]
            rw [chA, if_neg (by omega), if_pos cL, if_neg (by omega)]
            exact ih _ (by omega) (by omega) (by omega)
          · refine zV_iload dX4_chainAt_34 rfl ?_
            refine zV.eq (show (((k + 1 : Nat) : Int) - 1 : Int) = ((k : Nat) : Int) from by omega) ?_
            exact zV_ireturn dX4_chainAt_36 rfl rfl ⟨by rw [chA, if_neg (by omega), if_pos cL, if_pos (by omega)], rfl⟩
        · refine zV.eq (show (bI (isLk P p k) : Int) = 0 from bI_f cL) ?_
          refine zV_jif_ne 30 dX4_chainAt_24 rfl ⟨by decide, by decide⟩ (fun c_ => absurd c_ (by decide)) (fun _ => ?_)
          refine zV_goto 41 dX4_chainAt_27 rfl ?_
          refine zV_jinc (lv' := [(0, .ref o), (1, .int (jI ((p : Int)))), (2, .int (jI ((i : Int)))), (3, .int (jI ((j : Int)))), (4, .int (jI ((((k + 1 : Nat) : Int) - 1) + (-1))))]) dX4_chainAt_41 rfl (by decide) rfl rfl ?_
          refine zV_goto 7 dX4_chainAt_44 rfl ?_
          rw [show ((((k + 1 : Nat) : Int) - 1) + (-1) : Int) = ((k : Nat) : Int) - 1 from by omega]
          rw [chA, if_neg (by omega), if_neg cL]
          exact ih _ (by omega) (by omega) h3
  exact key p i (pE_le _ _) (Nat.le_refl _) hi
theorem c_X4_sameMany (hM : MdL h o) (hP : gI h (o + 1) = P) (hw : pWf P) (p d : Nat) (hp : (p : Int) < P 0) (hd : d ≤ p) : zM G zX4_sameMany 1 [.ref o, .int (jI (p : Int)), .int (jI (d : Int))] h (zJ h (some (.int (jI ((sm P p d : Nat) : Int))))) := by
  obtain ⟨w0, w0b, w1, w1b, w2, w2b, w3, w3b, w4, w4b, w5, w5b, wp, wl, wn⟩ := id hw
  refine zM.ofV (lv := [(0, .ref o), (1, .int (jI ((p : Int)))), (2, .int (jI ((d : Int))))]) (by decide +kernel) (Nat.le_of_ble_eq_true rfl) rfl ?_
  refine zV_iconst (n := 0) dX4_sameMany_0 ?_
  refine zV_istore_n (lv' := [(0, .ref o), (1, .int (jI ((p : Int)))), (2, .int (jI ((d : Int)))), (3, .int (jI (0)))]) 3 dX4_sameMany_1 rfl (by decide) rfl rfl ?_
  have key : ∀ f n : Nat, n + f = 64 → p + n ≤ 64 → zV G zX4_sameMany 1 2 [(0, .ref o), (1, .int (jI ((p : Int)))), (2, .int (jI ((d : Int)))), (3, .int (jI ((n : Int))))] [] h (zJ h (some (.int (jI ((smF P p d f n : Nat) : Int))))) := by
    intro f
    induction f with
    | zero =>
      intro n h1 h2
      refine zV_iload_n 1 dX4_sameMany_2 rfl rfl ?_
      refine zV_iload_n 3 dX4_sameMany_3 rfl rfl ?_
      refine zV_jadd dX4_sameMany_4 ?_
      refine zV_aload_n 0 dX4_sameMany_5 rfl rfl (Or.inr ⟨_, rfl⟩) ?_
      refine zc_V (y' := zX4_many) (as := []) (rest := [.int (jI ((p : Int) + (n : Int)))]) (ci := 3) (q := (RX4, TX4, 27)) bX4_many dX4_sameMany_6 q2042 q2044 qs50 (md_k hM) rfl (c_X4_many hM hP) rfl rfl (by decide) (Nat.le_of_ble_eq_true rfl) (by decide) (zk_J1 ?_)
      refine zV_jcmp_ge 38 dX4_sameMany_9 rfl ⟨by omega, by omega⟩ (by rw [← hP]; exact jr_toInt _) (fun c1 => ?_) (fun c_ => absurd c_ (by omega))
      refine zV_iload_n 3 dX4_sameMany_38 rfl rfl ?_
      exact zV_ireturn dX4_sameMany_39 rfl rfl ⟨rfl, rfl⟩
    | succ f ih =>
      intro n h1 h2
      refine zV_iload_n 1 dX4_sameMany_2 rfl rfl ?_
      refine zV_iload_n 3 dX4_sameMany_3 rfl rfl ?_
      refine zV_jadd dX4_sameMany_4 ?_
      refine zV_aload_n 0 dX4_sameMany_5 rfl rfl (Or.inr ⟨_, rfl⟩) ?_
      refine zc_V (y' := zX4_many) (as := []) (rest := [.int (jI ((p : Int) + (n : Int)))]) (ci := 3) (q := (RX4, TX4, 27)) bX4_many dX4_sameMany_6 q2042 q2044 qs50 (md_k hM) rfl (c_X4_many hM hP) rfl rfl (by decide) (Nat.le_of_ble_eq_true rfl) (by decide) (zk_J1 ?_)
      refine zV_jcmp_ge 38 dX4_sameMany_9 rfl ⟨by omega, by omega⟩ (by rw [← hP]; exact jr_toInt _) (fun c1 => ?_) (fun c1 => ?_)
      · refine zV_iload_n 3 dX4_sameMany_38 rfl rfl ?_
        exact zV_ireturn dX4_sameMany_39 rfl rfl ⟨by rw [smF_s, if_neg (fun z => by have := z.1; omega)], rfl⟩
      · refine zV_aload_n 0 dX4_sameMany_12 rfl rfl (Or.inr ⟨_, rfl⟩) ?_
        refine zV_iload_n 1 dX4_sameMany_13 rfl rfl ?_
        refine zV_iload_n 3 dX4_sameMany_14 rfl rfl ?_
        refine zV_jadd dX4_sameMany_15 ?_
        refine zV.eq (show ((p : Int) + (n : Int) : Int) = ((p + n : Nat) : Int) from by omega) ?_
        refine zc_V (y' := zX4_letter) (as := [.int (jI (((p + n : Nat) : Int)))]) (rest := []) (ci := 3) (q := (RX4, TX4, 27)) bX4_letter dX4_sameMany_16 q2176 q2178 qs77 (md_k hM) rfl (c_X4_letter hM hP (p + n) (by omega)) rfl rfl (by decide) (Nat.le_of_ble_eq_true rfl) (by decide) (zk_J1 ?_)
        refine zV_aload_n 0 dX4_sameMany_19 rfl rfl (Or.inr ⟨_, rfl⟩) ?_
        refine zV_iload_n 1 dX4_sameMany_20 rfl rfl ?_
        refine zV_iload_n 3 dX4_sameMany_21 rfl rfl ?_
        refine zV_jadd dX4_sameMany_22 ?_
        refine zV_iload_n 2 dX4_sameMany_23 rfl rfl ?_
        refine zV_jsub dX4_sameMany_24 ?_
        refine zV.eq (show (((p : Int) + (n : Int)) - (d : Int) : Int) = ((p + n - d : Nat) : Int) from by omega) ?_
        refine zc_V (y' := zX4_letter) (as := [.int (jI (((p + n - d : Nat) : Int)))]) (rest := [.int (jI (P (p + n + 43)))]) (ci := 3) (q := (RX4, TX4, 27)) bX4_letter dX4_sameMany_25 q2176 q2178 qs77 (md_k hM) rfl (c_X4_letter hM hP (p + n - d) (by omega)) rfl rfl (by decide) (Nat.le_of_ble_eq_true rfl) (by decide) (zk_J1 ?_)
        refine zV_jcmp_ne 38 dX4_sameMany_28 rfl (by rw [← hP]; exact jr_toInt _) (by rw [← hP]; exact jr_toInt _) (fun c2 => ?_) (fun c2 => ?_)
        · refine zV_iload_n 3 dX4_sameMany_38 rfl rfl ?_
          exact zV_ireturn dX4_sameMany_39 rfl rfl ⟨by rw [smF_s, if_neg (fun z => c2 z.2)], rfl⟩
        · refine zV_iload_n 3 dX4_sameMany_31 rfl rfl ?_
          refine zV_iconst (n := 1) dX4_sameMany_32 ?_
          refine zV_jadd dX4_sameMany_33 ?_
          refine zV_istore_n (lv' := [(0, .ref o), (1, .int (jI ((p : Int)))), (2, .int (jI ((d : Int)))), (3, .int (jI ((n : Int) + 1)))]) 3 dX4_sameMany_34 rfl (by decide) rfl rfl ?_
          refine zV_goto 2 dX4_sameMany_35 rfl ?_
          rw [show ((n : Int) + 1 : Int) = ((n + 1 : Nat) : Int) from by omega]
          rw [smF_s, if_pos ⟨by omega, c2⟩]
          exact ih (n + 1) (by omega) (by omega)
  exact key 64 0 (by omega) (by omega)
theorem c_X4_isPinnedFrom (hM : MdL h o) (hP : gI h (o + 1) = P) (p n : Nat) (hn : p + n ≤ 64) : zM G zX4_isPinnedFrom 1 [.ref o, .int (jI (p : Int)), .int (jI (n : Int))] h (zOkI (fun z h1 => z = @bI (pinB P p n) (Classical.propDecidable _) ∧ h1 = h)) := by
  refine zM.ofV (lv := [(0, .ref o), (1, .int (jI ((p : Int)))), (2, .int (jI ((n : Int))))]) (by decide +kernel) (Nat.le_of_ble_eq_true rfl) rfl ?_
  refine zV_iload_n 1 dX4_isPinnedFrom_0 rfl rfl ?_
  refine zV_istore_n (lv' := [(0, .ref o), (1, .int (jI ((p : Int)))), (2, .int (jI ((n : Int)))), (3, .int (jI ((p : Int))))]) 3 dX4_isPinnedFrom_1 rfl (by decide) rfl rfl ?_
  have key : ∀ f j : Nat, j + f = n → ¬ pinB P p j → zV G zX4_isPinnedFrom 1 2 [(0, .ref o), (1, .int (jI ((p : Int)))), (2, .int (jI ((n : Int)))), (3, .int (jI (((p + j : Nat) : Int))))] [] h (zOkI (fun z h1 => z = @bI (pinB P p n) (Classical.propDecidable _) ∧ h1 = h)) := by
    intro f
    induction f with
    | zero =>
      intro j h1 h2
      refine zV_iload_n 3 dX4_isPinnedFrom_2 rfl rfl ?_
      refine zV_iload_n 1 dX4_isPinnedFrom_3 rfl rfl ?_
      refine zV_iload_n 2 dX4_isPinnedFrom_4 rfl rfl ?_
      refine zV_jadd dX4_isPinnedFrom_5 ?_
      refine zV_jcmp_ge 25 dX4_isPinnedFrom_6 rfl ⟨by omega, by omega⟩ ⟨by omega, by omega⟩ (fun c1 => ?_) (fun c_ => absurd c_ (by omega))
      refine zV_iconst (n := 0) dX4_isPinnedFrom_25 ?_
      exact zV_ireturn dX4_isPinnedFrom_26 rfl rfl ⟨_, rfl, by rw [show n = j by omega]; exact (@bI_f _ (Classical.propDecidable _) h2).symm, rfl⟩
    | succ f ih =>
      intro j h1 h2
      refine zV_iload_n 3 dX4_isPinnedFrom_2 rfl rfl ?_
      refine zV_iload_n 1 dX4_isPinnedFrom_3 rfl rfl ?_
      refine zV_iload_n 2 dX4_isPinnedFrom_4 rfl rfl ?_
      refine zV_jadd dX4_isPinnedFrom_5 ?_
      refine zV_jcmp_ge 25 dX4_isPinnedFrom_6 rfl ⟨by omega, by omega⟩ ⟨by omega, by omega⟩ (fun c_ => absurd c_ (by omega)) (fun c1 => ?_)
      refine zV_aload_n 0 dX4_isPinnedFrom_9 rfl rfl (Or.inr ⟨_, rfl⟩) ?_
      refine zV_iload_n 3 dX4_isPinnedFrom_10 rfl rfl ?_
      refine zc_V (y' := zX4_isPinned) (as := [.int (jI (((p + j : Nat) : Int)))]) (rest := []) (ci := 3) (q := (RX4, TX4, 27)) bX4_isPinned dX4_isPinnedFrom_11 q2097 q2099 qs63 (md_k hM) rfl (c_X4_isPinned hM hP (p + j) (by omega)) rfl rfl (by decide) (Nat.le_of_ble_eq_true rfl) (by decide) (zk_J1 ?_)
      by_cases cP : P (p + j + 107) = 1
      · refine zV.eq (show (bI (P (p + j + 107) = 1) : Int) = 1 from bI_t cP) ?_
        refine zV_jif_eq 19 dX4_isPinnedFrom_14 rfl ⟨by decide, by decide⟩ (fun c_ => absurd c_ (by decide)) (fun _ => ?_)
        refine zV_iconst (n := 1) dX4_isPinnedFrom_17 ?_
        exact zV_ireturn dX4_isPinnedFrom_18 rfl rfl ⟨_, rfl, (@bI_t _ (Classical.propDecidable _) ⟨j, by omega, cP⟩).symm, rfl⟩
      · refine zV.eq (show (bI (P (p + j + 107) = 1) : Int) = 0 from bI_f cP) ?_
        refine zV_jif_eq 19 dX4_isPinnedFrom_14 rfl ⟨by decide, by decide⟩ (fun _ => ?_) (fun c_ => absurd c_ (by decide))
        refine zV_jinc (lv' := [(0, .ref o), (1, .int (jI ((p : Int)))), (2, .int (jI ((n : Int)))), (3, .int (jI (((p + j : Nat) : Int) + 1)))]) dX4_isPinnedFrom_19 rfl (by decide) rfl rfl ?_
        refine zV_goto 2 dX4_isPinnedFrom_22 rfl ?_
        rw [show (((p + j : Nat) : Int) + 1 : Int) = ((p + (j + 1) : Nat) : Int) from by omega]
        exact ih (j + 1) (by omega) (fun z => (pinB_s.mp z).elim h2 cP)
  rw [show ((p : Int) : Int) = ((p + 0 : Nat) : Int) from by omega]
  exact key n 0 (by omega) (fun ⟨j, z, _⟩ => by omega)
end M3
