/-! ===== THE MODEL, 2: chains, candidates (printed by gen/m2.py) ===== -/
set_option maxRecDepth 100000
section M2
variable {G : zG} {h : zH} {o : Nat} {P : pRow}
theorem c_X4_bit (p : Prop) [Decidable p] : zM G zX4_bit 0 [.int (jI (bI p))] h (zJ h (some (.int (jI (bI p))))) := by
  by_cases hp : p
  · rw [bI_t hp]
    refine zM.ofV (lv := [(0, .int (jI 1))]) (by decide +kernel) (Nat.le_of_ble_eq_true rfl) rfl ?_
    refine zV_iload_n 0 dX4_bit_0 rfl rfl ?_
    refine zV_jif_eq 8 dX4_bit_1 rfl ⟨by decide, by decide⟩ (fun c_ => absurd c_ (by decide)) (fun _ => ?_)
    refine zV_iconst (n := 1) dX4_bit_4 ?_
    refine zV_goto 9 dX4_bit_5 rfl ?_
    exact zV_ireturn dX4_bit_9 rfl rfl ⟨rfl, rfl⟩
  · rw [bI_f hp]
    refine zM.ofV (lv := [(0, .int (jI 0))]) (by decide +kernel) (Nat.le_of_ble_eq_true rfl) rfl ?_
    refine zV_iload_n 0 dX4_bit_0 rfl rfl ?_
    refine zV_jif_eq 8 dX4_bit_1 rfl ⟨by decide, by decide⟩ (fun _ => ?_) (fun c_ => absurd c_ (by decide))
    refine zV_iconst (n := 0) dX4_bit_8 ?_
    exact zV_ireturn dX4_bit_9 rfl rfl ⟨rfl, rfl⟩
theorem c_X4_isLink (hM : MdL h o) (hP : gI h (o + 1) = P) (p q : Nat) (hp : p < 64) (hq : q < 64) : zM G zX4_isLink 1 [.ref o, .int (jI (p : Int)), .int (jI (q : Int))] h (zJ h (some (.int (jI (bI (isLk (P) p q)))))) := by
  refine zM.ofV (lv := [(0, .ref o), (1, .int (jI ((p : Int)))), (2, .int (jI ((q : Int))))]) (by decide +kernel) (Nat.le_of_ble_eq_true rfl) rfl ?_
  refine zV_iload_n 1 dX4_isLink_0 rfl rfl ?_
  refine zV_iconst (n := 1) dX4_isLink_1 ?_
  refine zV_jadd dX4_isLink_2 ?_
  refine zV_aload_n 0 dX4_isLink_3 rfl rfl (Or.inr ⟨_, rfl⟩) ?_
  refine zc_V (y' := zX4_many) (as := []) (rest := [.int (jI ((p : Int) + 1))]) (ci := 3) (q := (RX4, TX4, 27)) bX4_many dX4_isLink_4 q2042 q2044 qs50 (md_k hM) rfl (c_X4_many hM hP) rfl rfl (by decide) (Nat.le_of_ble_eq_true rfl) (by decide) (zk_J1 ?_)
  refine zV_jcmp_ge 44 dX4_isLink_7 rfl ⟨by omega, by omega⟩ (by rw [← hP]; exact jr_toInt _) (fun c1 => ?_) (fun c1 => ?_)
  · refine zV_iconst (n := 0) dX4_isLink_44 ?_
    exact zV_ireturn dX4_isLink_45 rfl rfl ⟨by rw [bI_f (fun z => by have := z.1; omega)], rfl⟩
  · refine zV_aload_n 0 dX4_isLink_10 rfl rfl (Or.inr ⟨_, rfl⟩) ?_
    refine zV_iload_n 2 dX4_isLink_11 rfl rfl ?_
    refine zc_V (y' := zX4_letter) (as := [.int (jI ((q : Int)))]) (rest := []) (ci := 3) (q := (RX4, TX4, 27)) bX4_letter dX4_isLink_12 q2176 q2178 qs77 (md_k hM) rfl (c_X4_letter hM hP (q) (by omega)) rfl rfl (by decide) (Nat.le_of_ble_eq_true rfl) (by decide) (zk_J1 ?_)
    refine zV_aload_n 0 dX4_isLink_15 rfl rfl (Or.inr ⟨_, rfl⟩) ?_
    refine zV_iload_n 1 dX4_isLink_16 rfl rfl ?_
    refine zc_V (y' := zX4_letter) (as := [.int (jI ((p : Int)))]) (rest := [.int (jI (P (q + 43)))]) (ci := 3) (q := (RX4, TX4, 27)) bX4_letter dX4_isLink_17 q2176 q2178 qs77 (md_k hM) rfl (c_X4_letter hM hP (p) (by omega)) rfl rfl (by decide) (Nat.le_of_ble_eq_true rfl) (by decide) (zk_J1 ?_)
    refine zV_jcmp_ne 44 dX4_isLink_20 rfl (by rw [← hP]; exact jr_toInt _) (by rw [← hP]; exact jr_toInt _) (fun c2 => ?_) (fun c2 => ?_)
    · refine zV_iconst (n := 0) dX4_isLink_44 ?_
      exact zV_ireturn dX4_isLink_45 rfl rfl ⟨by rw [bI_f (fun z => c2 z.2.1)], rfl⟩
    · refine zV_aload_n 0 dX4_isLink_23 rfl rfl (Or.inr ⟨_, rfl⟩) ?_
      refine zV_iload_n 2 dX4_isLink_24 rfl rfl ?_
      refine zV_iconst (n := 1) dX4_isLink_25 ?_
      refine zV_jadd dX4_isLink_26 ?_
      refine zc_V (y' := zX4_letter) (as := [.int (jI ((q : Int) + 1))]) (rest := []) (ci := 3) (q := (RX4, TX4, 27)) bX4_letter dX4_isLink_27 q2176 q2178 qs77 (md_k hM) rfl (c_X4_letter hM hP (q + 1) (by omega)) rfl rfl (by decide) (Nat.le_of_ble_eq_true rfl) (by decide) (zk_J1 ?_)
      refine zV_aload_n 0 dX4_isLink_30 rfl rfl (Or.inr ⟨_, rfl⟩) ?_
      refine zV_iload_n 1 dX4_isLink_31 rfl rfl ?_
      refine zV_iconst (n := 1) dX4_isLink_32 ?_
      refine zV_jadd dX4_isLink_33 ?_
      refine zc_V (y' := zX4_letter) (as := [.int (jI ((p : Int) + 1))]) (rest := [.int (jI (P (q + 1 + 43)))]) (ci := 3) (q := (RX4, TX4, 27)) bX4_letter dX4_isLink_34 q2176 q2178 qs77 (md_k hM) rfl (c_X4_letter hM hP (p + 1) (by omega)) rfl rfl (by decide) (Nat.le_of_ble_eq_true rfl) (by decide) (zk_J1 ?_)
      refine zV_jcmp_ne 44 dX4_isLink_37 rfl (by rw [← hP]; exact jr_toInt _) (by rw [← hP]; exact jr_toInt _) (fun c3 => ?_) (fun c3 => ?_)
      · refine zV_iconst (n := 0) dX4_isLink_44 ?_
        exact zV_ireturn dX4_isLink_45 rfl rfl ⟨by rw [bI_f (fun z => c3 z.2.2)], rfl⟩
      · refine zV_iconst (n := 1) dX4_isLink_40 ?_
        refine zV_goto 45 dX4_isLink_41 rfl ?_
        exact zV_ireturn dX4_isLink_45 rfl rfl ⟨by rw [bI_t ⟨c1, c2, c3⟩], rfl⟩
theorem c_X4_earliest (hM : MdL h o) (hP : gI h (o + 1) = P) (hw : pWf P) (p : Nat) (hp : p < 64) : zM G zX4_earliest 1 [.ref o, .int (jI (p : Int))] h (zJ h (some (.int (jI ((pE (P) p : Nat) : Int))))) := by
  obtain ⟨w0, w0b, w1, w1b, w2, w2b, w3, w3b, w4, w4b, w5, w5b, wp, wl, wn⟩ := id hw
  refine zM.ofV (lv := [(0, .ref o), (1, .int (jI ((p : Int))))]) (by decide +kernel) (Nat.le_of_ble_eq_true rfl) rfl ?_
  refine zV_iconst (n := 0) dX4_earliest_0 ?_
  refine zV_iload_n 1 dX4_earliest_1 rfl rfl ?_
  refine zV_aload_n 0 dX4_earliest_2 rfl rfl (Or.inr ⟨_, rfl⟩) ?_
  refine zV_iconst (n := 0) dX4_earliest_3 ?_
  refine zc_V (y' := zX4_set) (as := [.int (jI (0))]) (rest := [.int (jI ((p : Int))), .int (jI (0))]) (ci := 3) (q := (RX4, TX4, 27)) bX4_set dX4_earliest_4 q2157 q2159 qs73 (md_k hM) rfl (c_X4_set hM hP 0 (by omega)) rfl rfl (by decide) (Nat.le_of_ble_eq_true rfl) (by decide) (zk_J1 ?_)
  refine zV.eq (show (P (0 + 1) : Int) = P 1 from rfl) ?_
  refine zV_jsub dX4_earliest_7 ?_
  refine zc_S (y' := zX4_larger) (as := [.int (jI (0)), .int (jI ((p : Int) - (P 1)))]) (rest := []) bX4_larger dX4_earliest_8 q2169 q2170 (c_X4_larger 0 ((p : Int) - P 1) ⟨by decide, by decide⟩ ⟨by omega, by omega⟩) rfl rfl (by decide) (Nat.le_of_ble_eq_true rfl) (zk_J1 ?_)
  exact zV_ireturn dX4_earliest_11 rfl rfl ⟨by rw [pE_eq (by omega)], rfl⟩
theorem c_X4_chainMany (hM : MdL h o) (hP : gI h (o + 1) = P) (hw : pWf P) (p : Nat) (hp : p < 64) : zM G zX4_chainMany 2 [.ref o, .int (jI (p : Int))] h (zJ h (some (.int (jI ((chainN (P) p : Nat) : Int))))) := by
  obtain ⟨w0, w0b, w1, w1b, w2, w2b, w3, w3b, w4, w4b, w5, w5b, wp, wl, wn⟩ := id hw
  refine zM.ofV (lv := [(0, .ref o), (1, .int (jI ((p : Int))))]) (by decide +kernel) (Nat.le_of_ble_eq_true rfl) rfl ?_
  refine zV_iconst (n := 0) dX4_chainMany_0 ?_
  refine zV_istore_n (lv' := [(0, .ref o), (1, .int (jI ((p : Int)))), (2, .int (jI (0)))]) 2 dX4_chainMany_1 rfl (by decide) rfl rfl ?_
  refine zV_iload_n 1 dX4_chainMany_2 rfl rfl ?_
  refine zV_iconst (n := 1) dX4_chainMany_3 ?_
  refine zV_jsub dX4_chainMany_4 ?_
  refine zV_istore_n (lv' := [(0, .ref o), (1, .int (jI ((p : Int)))), (2, .int (jI (0))), (3, .int (jI ((p : Int) - 1)))]) 3 dX4_chainMany_5 rfl (by decide) rfl rfl ?_
  have key : ∀ k : Nat, pE (P) p ≤ k → k ≤ p → zV G zX4_chainMany 2 6 [(0, .ref o), (1, .int (jI ((p : Int)))), (2, .int (jI (((lkN (P) p k p : Nat) : Int)))), (3, .int (jI (((k : Nat) : Int) - 1)))] [] h (zJ h (some (.int (jI ((chainN (P) p : Nat) : Int))))) := by
    intro k
    induction k with
    | zero =>
      intro h1 h2
      refine zV_iload_n 3 dX4_chainMany_6 rfl rfl ?_
      refine zV_aload_n 0 dX4_chainMany_7 rfl rfl (Or.inr ⟨_, rfl⟩) ?_
      refine zV_iload_n 1 dX4_chainMany_8 rfl rfl ?_
      refine zc_V (y' := zX4_earliest) (as := [.int (jI ((p : Int)))]) (rest := [.int (jI (((0 : Nat) : Int) - 1))]) (ci := 3) (q := (RX4, TX4, 27)) bX4_earliest dX4_chainMany_9 q2165 q2167 qs75 (md_k hM) rfl (c_X4_earliest hM hP hw p hp) rfl rfl (by decide) (Nat.le_of_ble_eq_true rfl) (by decide) (zk_J1 ?_)
      refine zV_jcmp_lt 33 dX4_chainMany_12 rfl ⟨by omega, by omega⟩ ⟨by omega, by omega⟩ (fun c1 => ?_) (fun c_ => absurd c_ (by omega))
      refine zV_iload_n 2 dX4_chainMany_33 rfl rfl ?_
      exact zV_ireturn dX4_chainMany_34 rfl rfl ⟨by rw [chainN, show pE (P) p = 0 by omega], rfl⟩
    | succ k ih =>
      intro h1 h2
      refine zV_iload_n 3 dX4_chainMany_6 rfl rfl ?_
      refine zV_aload_n 0 dX4_chainMany_7 rfl rfl (Or.inr ⟨_, rfl⟩) ?_
      refine zV_iload_n 1 dX4_chainMany_8 rfl rfl ?_
      refine zc_V (y' := zX4_earliest) (as := [.int (jI ((p : Int)))]) (rest := [.int (jI (((k + 1 : Nat) : Int) - 1))]) (ci := 3) (q := (RX4, TX4, 27)) bX4_earliest dX4_chainMany_9 q2165 q2167 qs75 (md_k hM) rfl (c_X4_earliest hM hP hw p hp) rfl rfl (by decide) (Nat.le_of_ble_eq_true rfl) (by decide) (zk_J1 ?_)
      refine zV_jcmp_lt 33 dX4_chainMany_12 rfl ⟨by omega, by omega⟩ ⟨by omega, by omega⟩ (fun c1 => ?_) (fun c1 => ?_)
      · refine zV_iload_n 2 dX4_chainMany_33 rfl rfl ?_
        exact zV_ireturn dX4_chainMany_34 rfl rfl ⟨by rw [chainN, show pE (P) p = k + 1 by omega], rfl⟩
      · refine zV_iload_n 2 dX4_chainMany_15 rfl rfl ?_
        refine zV_aload_n 0 dX4_chainMany_16 rfl rfl (Or.inr ⟨_, rfl⟩) ?_
        refine zV_iload_n 1 dX4_chainMany_17 rfl rfl ?_
        refine zV_iload_n 3 dX4_chainMany_18 rfl rfl ?_
        refine zV.eq (show (((k + 1 : Nat) : Int) - 1 : Int) = ((k : Nat) : Int) from by omega) ?_
        refine zc_V (y' := zX4_isLink) (as := [.int (jI ((p : Int))), .int (jI (((k : Nat) : Int)))]) (rest := [.int (jI (((lkN (P) p (k + 1) p : Nat) : Int)))]) (ci := 3) (q := (RX4, TX4, 27)) bX4_isLink dX4_chainMany_19 q2172 q2174 qs76 (md_k hM) rfl (c_X4_isLink hM hP p k hp (by omega)) rfl rfl (by decide) (Nat.le_of_ble_eq_true rfl) (by decide) (zk_J1 ?_)
        refine zc_S (y' := zX4_bit) (as := [.int (jI (bI (isLk (P) p k)))]) (rest := [.int (jI (((lkN (P) p (k + 1) p : Nat) : Int)))]) bX4_bit dX4_chainMany_22 q2180 q2181 (c_X4_bit _) rfl rfl (by decide) (Nat.le_of_ble_eq_true rfl) (zk_J1 ?_)
        refine zV_jadd dX4_chainMany_25 ?_
        refine zV_istore_n (lv' := [(0, .ref o), (1, .int (jI ((p : Int)))), (2, .int (jI (((lkN (P) p (k + 1) p : Nat) : Int) + (bI (isLk (P) p k))))), (3, .int (jI (((k + 1 : Nat) : Int) - 1)))]) 2 dX4_chainMany_26 rfl (by decide) rfl rfl ?_
        refine zV_jinc (lv' := [(0, .ref o), (1, .int (jI ((p : Int)))), (2, .int (jI (((lkN (P) p (k + 1) p : Nat) : Int) + (bI (isLk (P) p k))))), (3, .int (jI ((((k + 1 : Nat) : Int) - 1) + (-1))))]) dX4_chainMany_27 rfl (by decide) rfl rfl ?_
        refine zV_goto 6 dX4_chainMany_30 rfl ?_
        rw [show (((lkN (P) p (k + 1) p : Nat) : Int) + (bI (isLk (P) p k)) : Int) = ((lkN (P) p k p : Nat) : Int) from by rw [lkN_lo _ _ _ _ (by omega : k < p)]; unfold bI; split <;> omega]
        rw [show ((((k + 1 : Nat) : Int) - 1) + (-1) : Int) = ((k : Nat) : Int) - 1 from by omega]
        exact ih (by omega) (by omega)
  rw [show (0 : Int) = ((lkN (P) p p p : Nat) : Int) from by rw [lkN_ge _ _ _ _ (Nat.le_refl _)]; rfl]
  exact key p (pE_le _ _) (Nat.le_refl _)
theorem c_X4_candidateMany (hM : MdL h o) (hP : gI h (o + 1) = P) (hw : pWf P) (p : Nat) (hp : p < 64) : zM G zX4_candidateMany 3 [.ref o, .int (jI (p : Int))] h (zJ h (some (.int (jI (candN (P) p))))) := by
  obtain ⟨w0, w0b, w1, w1b, w2, w2b, w3, w3b, w4, w4b, w5, w5b, wp, wl, wn⟩ := id hw
  refine zM.ofV (lv := [(0, .ref o), (1, .int (jI ((p : Int))))]) (by decide +kernel) (Nat.le_of_ble_eq_true rfl) rfl ?_
  refine zV_aload_n 0 dX4_candidateMany_0 rfl rfl (Or.inr ⟨_, rfl⟩) ?_
  refine zV_iconst (n := 1) dX4_candidateMany_1 ?_
  refine zc_V (y' := zX4_set) (as := [.int (jI (1))]) (rest := []) (ci := 3) (q := (RX4, TX4, 27)) bX4_set dX4_candidateMany_2 q2157 q2159 qs73 (md_k hM) rfl (c_X4_set hM hP 1 (by omega)) rfl rfl (by decide) (Nat.le_of_ble_eq_true rfl) (by decide) (zk_J1 ?_)
  refine zV.eq (show (P (1 + 1) : Int) = P 2 from rfl) ?_
  refine zV_aload_n 0 dX4_candidateMany_5 rfl rfl (Or.inr ⟨_, rfl⟩) ?_
  refine zV_iload_n 1 dX4_candidateMany_6 rfl rfl ?_
  refine zc_V (y' := zX4_chainMany) (as := [.int (jI ((p : Int)))]) (rest := [.int (jI (P 2))]) (ci := 3) (q := (RX4, TX4, 27)) bX4_chainMany dX4_candidateMany_7 q2161 q2163 qs74 (md_k hM) rfl (c_X4_chainMany hM hP hw p hp) rfl rfl (by decide) (Nat.le_of_ble_eq_true rfl) (by decide) (zk_J1 ?_)
  refine zc_S (y' := zX4_lesser) (as := [.int (jI (P 2)), .int (jI (((chainN (P) p : Nat) : Int)))]) (rest := []) bX4_lesser dX4_candidateMany_10 q2183 q2184 (c_X4_lesser _ _ (by rw [← hP]; exact jr_toInt _) ⟨by omega, by have := lkN_le (P) p (pE (P) p) p; unfold chainN; omega⟩) rfl rfl (by decide) (Nat.le_of_ble_eq_true rfl) (zk_J1 ?_)
  exact zV_ireturn dX4_candidateMany_13 rfl rfl ⟨rfl, rfl⟩
theorem c_X4_isCandidate (hM : MdL h o) (hP : gI h (o + 1) = P) (hw : pWf P) (p q : Nat) (hp : p < 64) (hq : q < p) : zM G zX4_isCandidate 2 [.ref o, .int (jI (p : Int)), .int (jI (q : Int))] h (zJ h (some (.int (jI (bI (isCd (P) p q)))))) := by
  obtain ⟨w0, w0b, w1, w1b, w2, w2b, w3, w3b, w4, w4b, w5, w5b, wp, wl, wn⟩ := id hw
  refine zM.ofV (lv := [(0, .ref o), (1, .int (jI ((p : Int)))), (2, .int (jI ((q : Int))))]) (by decide +kernel) (Nat.le_of_ble_eq_true rfl) rfl ?_
  refine zV_aload_n 0 dX4_isCandidate_0 rfl rfl (Or.inr ⟨_, rfl⟩) ?_
  refine zV_iload_n 1 dX4_isCandidate_1 rfl rfl ?_
  refine zV_iload_n 2 dX4_isCandidate_2 rfl rfl ?_
  refine zc_V (y' := zX4_isLink) (as := [.int (jI ((p : Int))), .int (jI ((q : Int)))]) (rest := []) (ci := 3) (q := (RX4, TX4, 27)) bX4_isLink dX4_isCandidate_3 q2172 q2174 qs76 (md_k hM) rfl (c_X4_isLink hM hP p q hp (by omega)) rfl rfl (by decide) (Nat.le_of_ble_eq_true rfl) (by decide) (zk_J1 ?_)
  by_cases cL : isLk (P) p q
  · refine zV.eq (show (bI (isLk (P) p q) : Int) = 1 from bI_t cL) ?_
    refine zV_jif_ne 11 dX4_isCandidate_6 rfl ⟨by decide, by decide⟩ (fun _ => ?_) (fun c_ => absurd c_ (by decide))
    refine zV_iconst (n := 0) dX4_isCandidate_11 ?_
    refine zV_istore_n (lv' := [(0, .ref o), (1, .int (jI ((p : Int)))), (2, .int (jI ((q : Int)))), (3, .int (jI (0)))]) 3 dX4_isCandidate_12 rfl (by decide) rfl rfl ?_
    refine zV_iload_n 1 dX4_isCandidate_13 rfl rfl ?_
    refine zV_iconst (n := 1) dX4_isCandidate_14 ?_
    refine zV_jsub dX4_isCandidate_15 ?_
    refine zV_istore (lv' := [(0, .ref o), (1, .int (jI ((p : Int)))), (2, .int (jI ((q : Int)))), (3, .int (jI (0))), (4, .int (jI ((p : Int) - 1)))]) dX4_isCandidate_16 (by decide) rfl rfl ?_
    have key : ∀ k : Nat, q + 1 ≤ k → k ≤ p → zV G zX4_isCandidate 2 18 [(0, .ref o), (1, .int (jI ((p : Int)))), (2, .int (jI ((q : Int)))), (3, .int (jI (((lkN (P) p k p : Nat) : Int)))), (4, .int (jI (((k : Nat) : Int) - 1)))] [] h (zJ h (some (.int (jI (bI (isCd (P) p q)))))) := by
      intro k
      induction k with
      | zero => intro h1 h2; omega
      | succ k ih =>
        intro h1 h2
        refine zV_iload dX4_isCandidate_18 rfl ?_
        refine zV_iload_n 2 dX4_isCandidate_20 rfl rfl ?_
        refine zV_jcmp_le 43 dX4_isCandidate_21 rfl ⟨by omega, by omega⟩ ⟨by omega, by omega⟩ (fun c1 => ?_) (fun c1 => ?_)
        · refine zV_iload_n 3 dX4_isCandidate_43 rfl rfl ?_
          refine zV_aload_n 0 dX4_isCandidate_44 rfl rfl (Or.inr ⟨_, rfl⟩) ?_
          refine zV_iconst (n := 1) dX4_isCandidate_45 ?_
          refine zc_V (y' := zX4_set) (as := [.int (jI (1))]) (rest := [.int (jI (((lkN (P) p (k + 1) p : Nat) : Int)))]) (ci := 3) (q := (RX4, TX4, 27)) bX4_set dX4_isCandidate_46 q2157 q2159 qs73 (md_k hM) rfl (c_X4_set hM hP 1 (by omega)) rfl rfl (by decide) (Nat.le_of_ble_eq_true rfl) (by decide) (zk_J1 ?_)
          refine zV.eq (show (P (1 + 1) : Int) = P 2 from rfl) ?_
          refine zV_jcmp_ge 56 dX4_isCandidate_49 rfl ⟨by omega, by have := lkN_le (P) p (k + 1) p; omega⟩ (by rw [← hP]; exact jr_toInt _) (fun c2 => ?_) (fun c2 => ?_)
          · refine zV_iconst (n := 0) dX4_isCandidate_56 ?_
            exact zV_ireturn dX4_isCandidate_57 rfl rfl ⟨by rw [bI_f (fun z => by have := z.2; rw [show q = k by omega] at this; omega)], rfl⟩
          · refine zV_iconst (n := 1) dX4_isCandidate_52 ?_
            refine zV_goto 57 dX4_isCandidate_53 rfl ?_
            exact zV_ireturn dX4_isCandidate_57 rfl rfl ⟨by rw [bI_t ⟨cL, by rw [show q = k by omega]; exact c2⟩], rfl⟩
        · refine zV_iload_n 3 dX4_isCandidate_24 rfl rfl ?_
          refine zV_aload_n 0 dX4_isCandidate_25 rfl rfl (Or.inr ⟨_, rfl⟩) ?_
          refine zV_iload_n 1 dX4_isCandidate_26 rfl rfl ?_
          refine zV_iload dX4_isCandidate_27 rfl ?_
          refine zV.eq (show (((k + 1 : Nat) : Int) - 1 : Int) = ((k : Nat) : Int) from by omega) ?_
          refine zc_V (y' := zX4_isLink) (as := [.int (jI ((p : Int))), .int (jI (((k : Nat) : Int)))]) (rest := [.int (jI (((lkN (P) p (k + 1) p : Nat) : Int)))]) (ci := 3) (q := (RX4, TX4, 27)) bX4_isLink dX4_isCandidate_29 q2172 q2174 qs76 (md_k hM) rfl (c_X4_isLink hM hP p k hp (by omega)) rfl rfl (by decide) (Nat.le_of_ble_eq_true rfl) (by decide) (zk_J1 ?_)
          refine zc_S (y' := zX4_bit) (as := [.int (jI (bI (isLk (P) p k)))]) (rest := [.int (jI (((lkN (P) p (k + 1) p : Nat) : Int)))]) bX4_bit dX4_isCandidate_32 q2180 q2181 (c_X4_bit _) rfl rfl (by decide) (Nat.le_of_ble_eq_true rfl) (zk_J1 ?_)
          refine zV_jadd dX4_isCandidate_35 ?_
          refine zV_istore_n (lv' := [(0, .ref o), (1, .int (jI ((p : Int)))), (2, .int (jI ((q : Int)))), (3, .int (jI (((lkN (P) p (k + 1) p : Nat) : Int) + (bI (isLk (P) p k))))), (4, .int (jI (((k + 1 : Nat) : Int) - 1)))]) 3 dX4_isCandidate_36 rfl (by decide) rfl rfl ?_
          refine zV_jinc (lv' := [(0, .ref o), (1, .int (jI ((p : Int)))), (2, .int (jI ((q : Int)))), (3, .int (jI (((lkN (P) p (k + 1) p : Nat) : Int) + (bI (isLk (P) p k))))), (4, .int (jI ((((k + 1 : Nat) : Int) - 1) + (-1))))]) dX4_isCandidate_37 rfl (by decide) rfl rfl ?_
          refine zV_goto 18 dX4_isCandidate_40 rfl ?_
          rw [show (((lkN (P) p (k + 1) p : Nat) : Int) + (bI (isLk (P) p k)) : Int) = ((lkN (P) p k p : Nat) : Int) from by rw [lkN_lo _ _ _ _ (by omega : k < p)]; unfold bI; split <;> omega]
          rw [show ((((k + 1 : Nat) : Int) - 1) + (-1) : Int) = ((k : Nat) : Int) - 1 from by omega]
          exact ih (by omega) (by omega)
    rw [show (0 : Int) = ((lkN (P) p p p : Nat) : Int) from by rw [lkN_ge _ _ _ _ (Nat.le_refl _)]; rfl]
    exact key p hq (Nat.le_refl _)
  · refine zV.eq (show (bI (isLk (P) p q) : Int) = 0 from bI_f cL) ?_
    refine zV_jif_ne 11 dX4_isCandidate_6 rfl ⟨by decide, by decide⟩ (fun c_ => absurd c_ (by decide)) (fun _ => ?_)
    refine zV_iconst (n := 0) dX4_isCandidate_9 ?_
    exact zV_ireturn dX4_isCandidate_10 rfl rfl ⟨by rw [bI_f (fun z => cL z.1)], rfl⟩
end M2
