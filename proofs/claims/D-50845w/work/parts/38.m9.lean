/-! ===== THE MODEL, 9: parses laid (printed by a program of gen/) ===== -/
set_option maxRecDepth 100000
section M9
variable {G : zG} {h : zH} {o : Nat} {P : pRow}
theorem c_X4_waits (hM : MdL h o) (hP : gI h (o + 1) = P) (hw : pWf P) (hL : LC P (gI h (o + 6))) (p : Nat) (hp : (p : Int) < P 0) : zM G zX4_waits 2 [.ref o, .int (jI (p : Int))] h (zJ h (some (.int (jI (bI (wts P p)))))) := by
  obtain ⟨w0, w0b, w1, w1b, w2, w2b, w3, w3b, w4, w4b, w5, w5b, wp, wl, wn⟩ := id hw
  refine zM.ofV (lv := [(0, .ref o), (1, .int (jI ((p : Int))))]) (by decide +kernel) (Nat.le_of_ble_eq_true rfl) rfl ?_
  refine zV_iload_n 1 dX4_waits_0 rfl rfl ?_
  refine zV_iconst (n := 1) dX4_waits_1 ?_
  refine zV_jadd dX4_waits_2 ?_
  refine zV.eq (show ((p : Int) + 1 : Int) = ((p + 1 : Nat) : Int) from by omega) ?_
  refine zV_aload_n 0 dX4_waits_3 rfl rfl (Or.inr ⟨_, rfl⟩) ?_
  refine zc_V (y' := zX4_many) (as := []) (rest := [.int (jI (((p + 1 : Nat) : Int)))]) (ci := 3) (q := (RX4, TX4, 27)) bX4_many dX4_waits_4 q2042 q2044 qs50 (md_k hM) rfl (c_X4_many hM hP) rfl rfl (by decide) (Nat.le_of_ble_eq_true rfl) (by decide) (zk_J1 ?_)
  refine zV_jcmp_ge 35 dX4_waits_7 rfl ⟨by omega, by omega⟩ (by rw [← hP]; exact jr_toInt _) (fun c1 => ?_) (fun c1 => ?_)
  · refine zV_iconst (n := 0) dX4_waits_35 ?_
    exact zV_ireturn dX4_waits_36 rfl rfl ⟨by rw [bI_f (fun z => by have := z.1; omega)], rfl⟩
  · refine zV_aload_n 0 dX4_waits_10 rfl rfl (Or.inr ⟨_, rfl⟩) ?_
    refine zV_iload_n 1 dX4_waits_11 rfl rfl ?_
    refine zV_iconst (n := 1) dX4_waits_12 ?_
    refine zV_jadd dX4_waits_13 ?_
    refine zV.eq (show ((p : Int) + 1 : Int) = ((p + 1 : Nat) : Int) from by omega) ?_
    have l1 := loN_le hw (p + 1)
    have l2 := loN_le hw p
    refine zc_V (y' := zX4_longestOf) (as := [.int (jI (((p + 1 : Nat) : Int)))]) (rest := []) (ci := 3) (q := (RX4, TX4, 27)) bX4_longestOf dX4_waits_14 q2206 q2208 qs83 (md_k hM) rfl (c_X4_longestOf hM hP hw hL (p + 1) (by omega)) rfl rfl (by decide) (Nat.le_of_ble_eq_true rfl) (by decide) (zk_J1 ?_)
    refine zV_aload_n 0 dX4_waits_17 rfl rfl (Or.inr ⟨_, rfl⟩) ?_
    refine zV_iload_n 1 dX4_waits_18 rfl rfl ?_
    refine zc_V (y' := zX4_longestOf) (as := [.int (jI ((p : Int)))]) (rest := [.int (jI (((loN P (p + 1) : Nat) : Int)))]) (ci := 3) (q := (RX4, TX4, 27)) bX4_longestOf dX4_waits_19 q2206 q2208 qs83 (md_k hM) rfl (c_X4_longestOf hM hP hw hL p hp) rfl rfl (by decide) (Nat.le_of_ble_eq_true rfl) (by decide) (zk_J1 ?_)
    refine zV_aload_n 0 dX4_waits_22 rfl rfl (Or.inr ⟨_, rfl⟩) ?_
    refine zV_iconst (n := 4) dX4_waits_23 ?_
    refine zc_V (y' := zX4_set) (as := [.int (jI (4))]) (rest := [.int (jI (((loN P p : Nat) : Int))), .int (jI (((loN P (p + 1) : Nat) : Int)))]) (ci := 3) (q := (RX4, TX4, 27)) bX4_set dX4_waits_24 q2157 q2159 qs73 (md_k hM) rfl (c_X4_set hM hP 4 (by omega)) rfl rfl (by decide) (Nat.le_of_ble_eq_true rfl) (by decide) (zk_J1 ?_)
    refine zV.eq (show (P (4 + 1) : Int) = P 5 from rfl) ?_
    refine zV_jadd dX4_waits_27 ?_
    refine zV_jcmp_lt 35 dX4_waits_28 rfl ⟨by omega, by omega⟩ ⟨by omega, by omega⟩ (fun c2 => ?_) (fun c2 => ?_)
    · refine zV_iconst (n := 0) dX4_waits_35 ?_
      exact zV_ireturn dX4_waits_36 rfl rfl ⟨by rw [bI_f (fun z => by have := z.2; omega)], rfl⟩
    · refine zV_iconst (n := 1) dX4_waits_31 ?_
      refine zV_goto 36 dX4_waits_32 rfl ?_
      exact zV_ireturn dX4_waits_36 rfl rfl ⟨by rw [bI_t ⟨by omega, c2⟩], rfl⟩
theorem c_X4_greedyStep (hM : MdL h o) (hP : gI h (o + 1) = P) (hw : pWf P) (hL : LC P (gI h (o + 6))) {k i : Nat} (hS : PsM h o P k i) (hi : i < qN P k) (hk0 : k ≠ 0) (hk3 : k ≠ 3) : zM G zX4_greedyStep 3 [.ref o, .int (jI (bI (k = 2)))] h (zOkV (fun h1 => zPs o h h1 ∧ PsM h1 o P k (i + 1))) := by
  obtain ⟨w0, w0b, w1, w1b, w2, w2b, w3, w3b, w4, w4b, w5, w5b, wp, wl, wn⟩ := id hw
  have hN := qN_le hw k
  refine zM.ofV (lv := [(0, .ref o), (1, .int (jI (bI (k = 2))))]) (by decide +kernel) (Nat.le_of_ble_eq_true rfl) rfl ?_
  refine zV_aload_n 0 dX4_greedyStep_0 rfl rfl (Or.inr ⟨_, rfl⟩) ?_
  refine zc_V (y' := zX4_ends) (as := []) (rest := []) (ci := 3) (q := (RX4, TX4, 27)) bX4_ends dX4_greedyStep_1 q2337 q2339 qs102 (md_k hM) rfl (c_X4_ends hM hw hS (by omega)) rfl rfl (by decide) (Nat.le_of_ble_eq_true rfl) (by decide) (zk_J1 ?_)
  have hq := q_b hw hi
  have hch : cha P k (sq P k i) = if 0 < loN P (qP P k i) ∧ ¬ (k = 2 ∧ wts P (qP P k i)) then (loN P (qP P k i), neN P (qP P k i)) else (1, 0) := by rw [cha, chs, if_neg hk0, if_neg hk3]
  have hst : ∀ n d : Nat, (n, d) = cha P k (sq P k i) → _ := fun n d hn => c_X4_steps0 (G := G) hM hw hS hi n d hn
  generalize qP P k i = p at hch hq ⊢
  have l2 := loN_le hw p
  refine zV_istore_n (lv' := [(0, .ref o), (1, .int (jI (bI (k = 2)))), (2, .int (jI (((p : Nat) : Int))))]) 2 dX4_greedyStep_4 rfl (by decide) rfl rfl ?_
  refine zV_aload_n 0 dX4_greedyStep_5 rfl rfl (Or.inr ⟨_, rfl⟩) ?_
  refine zV_iload_n 2 dX4_greedyStep_6 rfl rfl ?_
  refine zc_V (y' := zX4_longestOf) (as := [.int (jI (((p : Nat) : Int)))]) (rest := []) (ci := 3) (q := (RX4, TX4, 27)) bX4_longestOf dX4_greedyStep_7 q2206 q2208 qs83 (md_k hM) rfl (c_X4_longestOf hM hP hw hL p (by omega)) rfl rfl (by decide) (Nat.le_of_ble_eq_true rfl) (by decide) (zk_J1 ?_)
  refine zV_jif_le 29 dX4_greedyStep_10 rfl ⟨by omega, by omega⟩ (fun c1 => ?_) (fun c1 => ?_)
  · refine zV_iconst (n := 0) dX4_greedyStep_29 ?_
    refine zV_istore_n (lv' := [(0, .ref o), (1, .int (jI (bI (k = 2)))), (2, .int (jI (((p : Nat) : Int)))), (3, .int (jI (0)))]) 3 dX4_greedyStep_30 rfl (by decide) rfl rfl ?_
    refine zV_iload_n 3 dX4_greedyStep_31 rfl rfl ?_
    refine zV_jif_eq 52 dX4_greedyStep_32 rfl ⟨by decide, by decide⟩ (fun _ => ?_) (fun c_ => absurd c_ (by decide))
    refine zV_aload_n 0 dX4_greedyStep_52 rfl rfl (Or.inr ⟨_, rfl⟩) ?_
    refine zV_iconst (n := 1) dX4_greedyStep_53 ?_
    refine zV_iconst (n := 0) dX4_greedyStep_54 ?_
    refine zc_V (y' := zX4_steps0) (as := [.int (jI (1)), .int (jI (0))]) (rest := []) (ci := 3) (q := (RX4, TX4, 27)) bX4_steps0 dX4_greedyStep_55 q2341 q2343 qs103 (md_k hM) rfl (hst 1 0 (by rw [hch, if_neg (fun z => by have := z.1; omega)])) rfl rfl (by decide) (Nat.le_of_ble_eq_true rfl) (by decide) (zk_V (fun h1 ⟨j1, j2⟩ _ => ?_))
    exact zV_return dX4_greedyStep_58 rfl ⟨rfl, j1, j2⟩
  · refine zV_iload_n 1 dX4_greedyStep_13 rfl rfl ?_
    by_cases c2 : k = 2
    · refine zV.eq (show (bI (k = 2) : Int) = 1 from bI_t c2) ?_
      refine zV_jif_eq 25 dX4_greedyStep_14 rfl ⟨by decide, by decide⟩ (fun c_ => absurd c_ (by decide)) (fun _ => ?_)
      refine zV_aload_n 0 dX4_greedyStep_17 rfl rfl (Or.inr ⟨_, rfl⟩) ?_
      refine zV_iload_n 2 dX4_greedyStep_18 rfl rfl ?_
      refine zc_V (y' := zX4_waits) (as := [.int (jI (((p : Nat) : Int)))]) (rest := []) (ci := 3) (q := (RX4, TX4, 27)) bX4_waits dX4_greedyStep_19 q2365 q2367 qs109 (md_k hM) rfl (c_X4_waits hM hP hw hL p (by omega)) rfl rfl (by decide) (Nat.le_of_ble_eq_true rfl) (by decide) (zk_J1 ?_)
      by_cases c3 : wts P p
      · refine zV.eq (show (bI (wts P p) : Int) = 1 from bI_t c3) ?_
        refine zV_jif_ne 29 dX4_greedyStep_22 rfl ⟨by decide, by decide⟩ (fun _ => ?_) (fun c_ => absurd c_ (by decide))
        refine zV_iconst (n := 0) dX4_greedyStep_29 ?_
        refine zV_istore_n (lv' := [(0, .ref o), (1, .int (jI (bI (k = 2)))), (2, .int (jI (((p : Nat) : Int)))), (3, .int (jI (0)))]) 3 dX4_greedyStep_30 rfl (by decide) rfl rfl ?_
        refine zV_iload_n 3 dX4_greedyStep_31 rfl rfl ?_
        refine zV_jif_eq 52 dX4_greedyStep_32 rfl ⟨by decide, by decide⟩ (fun _ => ?_) (fun c_ => absurd c_ (by decide))
        refine zV_aload_n 0 dX4_greedyStep_52 rfl rfl (Or.inr ⟨_, rfl⟩) ?_
        refine zV_iconst (n := 1) dX4_greedyStep_53 ?_
        refine zV_iconst (n := 0) dX4_greedyStep_54 ?_
        refine zc_V (y' := zX4_steps0) (as := [.int (jI (1)), .int (jI (0))]) (rest := []) (ci := 3) (q := (RX4, TX4, 27)) bX4_steps0 dX4_greedyStep_55 q2341 q2343 qs103 (md_k hM) rfl (hst 1 0 (by rw [hch, if_neg (fun z => z.2 ⟨c2, c3⟩)])) rfl rfl (by decide) (Nat.le_of_ble_eq_true rfl) (by decide) (zk_V (fun h1 ⟨j1, j2⟩ _ => ?_))
        exact zV_return dX4_greedyStep_58 rfl ⟨rfl, j1, j2⟩
      · refine zV.eq (show (bI (wts P p) : Int) = 0 from bI_f c3) ?_
        refine zV_jif_ne 29 dX4_greedyStep_22 rfl ⟨by decide, by decide⟩ (fun c_ => absurd c_ (by decide)) (fun _ => ?_)
        refine zV_iconst (n := 1) dX4_greedyStep_25 ?_
        refine zV_goto 30 dX4_greedyStep_26 rfl ?_
        refine zV_istore_n (lv' := [(0, .ref o), (1, .int (jI (bI (k = 2)))), (2, .int (jI (((p : Nat) : Int)))), (3, .int (jI (1)))]) 3 dX4_greedyStep_30 rfl (by decide) rfl rfl ?_
        refine zV_iload_n 3 dX4_greedyStep_31 rfl rfl ?_
        refine zV_jif_eq 52 dX4_greedyStep_32 rfl ⟨by decide, by decide⟩ (fun c_ => absurd c_ (by decide)) (fun _ => ?_)
        refine zV_aload_n 0 dX4_greedyStep_35 rfl rfl (Or.inr ⟨_, rfl⟩) ?_
        refine zV_aload_n 0 dX4_greedyStep_36 rfl rfl (Or.inr ⟨_, rfl⟩) ?_
        refine zV_iload_n 2 dX4_greedyStep_37 rfl rfl ?_
        refine zc_V (y' := zX4_longestOf) (as := [.int (jI (((p : Nat) : Int)))]) (rest := [.ref o]) (ci := 3) (q := (RX4, TX4, 27)) bX4_longestOf dX4_greedyStep_38 q2206 q2208 qs83 (md_k hM) rfl (c_X4_longestOf hM hP hw hL p (by omega)) rfl rfl (by decide) (Nat.le_of_ble_eq_true rfl) (by decide) (zk_J1 ?_)
        refine zV_aload_n 0 dX4_greedyStep_41 rfl rfl (Or.inr ⟨_, rfl⟩) ?_
        refine zV_iload_n 2 dX4_greedyStep_42 rfl rfl ?_
        refine zc_V (y' := zX4_nearestOf) (as := [.int (jI (((p : Nat) : Int)))]) (rest := [.int (jI (((loN P p : Nat) : Int))), .ref o]) (ci := 3) (q := (RX4, TX4, 27)) bX4_nearestOf dX4_greedyStep_43 q2264 q2266 qs92 (md_k hM) rfl (c_X4_nearestOf hM hP hw hL p (by omega)) rfl rfl (by decide) (Nat.le_of_ble_eq_true rfl) (by decide) (zk_J1 ?_)
        refine zc_V (y' := zX4_steps0) (as := [.int (jI (((loN P p : Nat) : Int))), .int (jI (((neN P p : Nat) : Int)))]) (rest := []) (ci := 3) (q := (RX4, TX4, 27)) bX4_steps0 dX4_greedyStep_46 q2341 q2343 qs103 (md_k hM) rfl (hst (loN P p) (neN P p) (by rw [hch, if_pos ⟨by omega, fun z => c3 z.2⟩])) rfl rfl (by decide) (Nat.le_of_ble_eq_true rfl) (by decide) (zk_V (fun h1 ⟨j1, j2⟩ _ => ?_))
        refine zV_goto 58 dX4_greedyStep_49 rfl ?_
        exact zV_return dX4_greedyStep_58 rfl ⟨rfl, j1, j2⟩
    · refine zV.eq (show (bI (k = 2) : Int) = 0 from bI_f c2) ?_
      refine zV_jif_eq 25 dX4_greedyStep_14 rfl ⟨by decide, by decide⟩ (fun _ => ?_) (fun c_ => absurd c_ (by decide))
      refine zV_iconst (n := 1) dX4_greedyStep_25 ?_
      refine zV_goto 30 dX4_greedyStep_26 rfl ?_
      refine zV_istore_n (lv' := [(0, .ref o), (1, .int (jI (bI (k = 2)))), (2, .int (jI (((p : Nat) : Int)))), (3, .int (jI (1)))]) 3 dX4_greedyStep_30 rfl (by decide) rfl rfl ?_
      refine zV_iload_n 3 dX4_greedyStep_31 rfl rfl ?_
      refine zV_jif_eq 52 dX4_greedyStep_32 rfl ⟨by decide, by decide⟩ (fun c_ => absurd c_ (by decide)) (fun _ => ?_)
      refine zV_aload_n 0 dX4_greedyStep_35 rfl rfl (Or.inr ⟨_, rfl⟩) ?_
      refine zV_aload_n 0 dX4_greedyStep_36 rfl rfl (Or.inr ⟨_, rfl⟩) ?_
      refine zV_iload_n 2 dX4_greedyStep_37 rfl rfl ?_
      refine zc_V (y' := zX4_longestOf) (as := [.int (jI (((p : Nat) : Int)))]) (rest := [.ref o]) (ci := 3) (q := (RX4, TX4, 27)) bX4_longestOf dX4_greedyStep_38 q2206 q2208 qs83 (md_k hM) rfl (c_X4_longestOf hM hP hw hL p (by omega)) rfl rfl (by decide) (Nat.le_of_ble_eq_true rfl) (by decide) (zk_J1 ?_)
      refine zV_aload_n 0 dX4_greedyStep_41 rfl rfl (Or.inr ⟨_, rfl⟩) ?_
      refine zV_iload_n 2 dX4_greedyStep_42 rfl rfl ?_
      refine zc_V (y' := zX4_nearestOf) (as := [.int (jI (((p : Nat) : Int)))]) (rest := [.int (jI (((loN P p : Nat) : Int))), .ref o]) (ci := 3) (q := (RX4, TX4, 27)) bX4_nearestOf dX4_greedyStep_43 q2264 q2266 qs92 (md_k hM) rfl (c_X4_nearestOf hM hP hw hL p (by omega)) rfl rfl (by decide) (Nat.le_of_ble_eq_true rfl) (by decide) (zk_J1 ?_)
      refine zc_V (y' := zX4_steps0) (as := [.int (jI (((loN P p : Nat) : Int))), .int (jI (((neN P p : Nat) : Int)))]) (rest := []) (ci := 3) (q := (RX4, TX4, 27)) bX4_steps0 dX4_greedyStep_46 q2341 q2343 qs103 (md_k hM) rfl (hst (loN P p) (neN P p) (by rw [hch, if_pos ⟨by omega, fun z => c2 z.1⟩])) rfl rfl (by decide) (Nat.le_of_ble_eq_true rfl) (by decide) (zk_V (fun h1 ⟨j1, j2⟩ _ => ?_))
      refine zV_goto 58 dX4_greedyStep_49 rfl ?_
      exact zV_return dX4_greedyStep_58 rfl ⟨rfl, j1, j2⟩
theorem c_X4_lastNow (hM : MdL h o) (hw : pWf P) {k i : Nat} (hS : PsM h o P k i) (hi : i ≤ qN P k) : zM G zX4_lastNow 1 [.ref o] h (zJ h (some (.int (jI ((qL P k i : Nat) : Int))))) := by
  refine zM.ofV (lv := [(0, .ref o)]) (by decide +kernel) (Nat.le_of_ble_eq_true rfl) rfl ?_
  refine zV_aload_n 0 dX4_lastNow_0 rfl rfl (Or.inr ⟨_, rfl⟩) ?_
  refine zV_aload_n 0 dX4_lastNow_1 rfl rfl (Or.inr ⟨_, rfl⟩) ?_
  refine zV_tgetf (ci := 3) (q := (RX4, TX4, 27)) 14 dX4_lastNow_2 q1931 (md_k hM) rfl (by decide) rfl (by decide) ?_
  refine zV.eq (show ((zI h o 14).toInt : Int) = ((i : Nat) : Int) from hS.1) ?_
  refine zc_V (y' := zX4_lastOf) (as := [.int (jI (((i : Nat) : Int)))]) (rest := []) (ci := 3) (q := (RX4, TX4, 27)) bX4_lastOf dX4_lastNow_5 q2353 q2355 qs106 (md_k hM) rfl (c_X4_lastOf hM hw hS hi i (Nat.le_refl _)) rfl rfl (by decide) (Nat.le_of_ble_eq_true rfl) (by decide) (zk_J1 ?_)
  exact zV_ireturn dX4_lastNow_8 rfl rfl ⟨rfl, rfl⟩
theorem c_X4_bestStep (hM : MdL h o) (hP : gI h (o + 1) = P) (hw : pWf P) (hL : LC P (gI h (o + 6))) (hR : ∀ j, j < 66 * ((P 0).toNat + 1) → gI h (o + 7) j = rt P j) {i : Nat} (hS : PsM h o P 3 i) (hi : i < qN P 3) : zM G zX4_bestStep 3 [.ref o] h (zOkV (fun h1 => zPs o h h1 ∧ PsM h1 o P 3 (i + 1))) := by
  obtain ⟨w0, w0b, w1, w1b, w2, w2b, w3, w3b, w4, w4b, w5, w5b, wp, wl, wn⟩ := id hw
  have hlg0 : ∀ p d, lg P p d ≤ 12 := fun p d => by have := lg_le P p d; omega
  refine zM.ofV (lv := [(0, .ref o)]) (by decide +kernel) (Nat.le_of_ble_eq_true rfl) rfl ?_
  refine zV_aload_n 0 dX4_bestStep_0 rfl rfl (Or.inr ⟨_, rfl⟩) ?_
  refine zc_V (y' := zX4_ends) (as := []) (rest := []) (ci := 3) (q := (RX4, TX4, 27)) bX4_ends dX4_bestStep_1 q2337 q2339 qs102 (md_k hM) rfl (c_X4_ends hM hw hS (by omega)) rfl rfl (by decide) (Nat.le_of_ble_eq_true rfl) (by decide) (zk_J1 ?_)
  refine zV_istore_n (lv' := [(0, .ref o), (1, .int (jI (((qP P 3 i : Nat) : Int))))]) 1 dX4_bestStep_4 rfl (by decide) rfl rfl ?_
  refine zV_aload_n 0 dX4_bestStep_5 rfl rfl (Or.inr ⟨_, rfl⟩) ?_
  refine zc_V (y' := zX4_lastNow) (as := []) (rest := []) (ci := 3) (q := (RX4, TX4, 27)) bX4_lastNow dX4_bestStep_6 q2349 q2351 qs105 (md_k hM) rfl (c_X4_lastNow hM hw hS (by omega)) rfl rfl (by decide) (Nat.le_of_ble_eq_true rfl) (by decide) (zk_J1 ?_)
  refine zV_istore_n (lv' := [(0, .ref o), (1, .int (jI (((qP P 3 i : Nat) : Int)))), (2, .int (jI (((qL P 3 i : Nat) : Int))))]) 2 dX4_bestStep_9 rfl (by decide) rfl rfl ?_
  refine zV_aload_n 0 dX4_bestStep_10 rfl rfl (Or.inr ⟨_, rfl⟩) ?_
  refine zV_aload_n 0 dX4_bestStep_11 rfl rfl (Or.inr ⟨_, rfl⟩) ?_
  refine zV_tgetf (ci := 3) (q := (RX4, TX4, 27)) 14 dX4_bestStep_12 q1931 (md_k hM) rfl (by decide) rfl (by decide) ?_
  refine zV.eq (show ((zI h o 14).toInt : Int) = ((i : Nat) : Int) from hS.1) ?_
  refine zc_V (y' := zX4_isInRun) (as := [.int (jI (((i : Nat) : Int)))]) (rest := []) (ci := 3) (q := (RX4, TX4, 27)) bX4_isInRun dX4_bestStep_15 q2357 q2359 qs107 (md_k hM) rfl (c_X4_isInRun hM hw hS (by omega) i (Nat.le_refl _)) rfl rfl (by decide) (Nat.le_of_ble_eq_true rfl) (by decide) (zk_J1 ?_)
  have hq := q_b hw hi
  have hch : cha P 3 (sq P 3 i) = bst P (qP P 3 i) (qL P 3 i) (qR P 3 i) := rfl
  have hst : ∀ n d : Nat, (n, d) = cha P 3 (sq P 3 i) → _ := fun n d hn => c_X4_steps0 (G := G) hM hw hS hi n d hn
  generalize qP P 3 i = p at hch hq ⊢
  generalize qL P 3 i = l at hch hq ⊢
  generalize qR P 3 i = r at hch hq ⊢
  have hx0 := (rt_rB hw).b hw (j := 66 * p + 2 * l + r) (by omega) (by omega)
  have hx1 := (rt_rB hw).b hw (j := 66 * (p + 1) + 2 * l + 1) (by omega) (by omega)
  have hlc := lC_b hw hq.1 r
  refine zV_istore_n (lv' := [(0, .ref o), (1, .int (jI (((p : Nat) : Int)))), (2, .int (jI (((l : Nat) : Int)))), (3, .int (jI (((r : Nat) : Int))))]) 3 dX4_bestStep_18 rfl (by decide) rfl rfl ?_
  refine zV_aload_n 0 dX4_bestStep_19 rfl rfl (Or.inr ⟨_, rfl⟩) ?_
  refine zV_getf (v := .ref (o + 7)) (ci := 3) (q := (RX4, TX4, 27)) 9 dX4_bestStep_20 q1926 (md_k hM) rfl (by decide) (congrArg va_rf (md_r_rest hM)) (by decide) ?_
  refine zV_iload_n 1 dX4_bestStep_23 rfl rfl ?_
  refine zV_iload_n 2 dX4_bestStep_24 rfl rfl ?_
  refine zV_iload_n 3 dX4_bestStep_25 rfl rfl ?_
  refine zc_S (y' := zX4_state) (as := [.int (jI (((p : Nat) : Int))), .int (jI (((l : Nat) : Int))), .int (jI (((r : Nat) : Int)))]) (rest := [.ref (o + 7)]) bX4_state dX4_bestStep_26 q2321 q2322 (c_X4_state p l r (by omega)) rfl rfl (by decide) (Nat.le_of_ble_eq_true rfl) (zk_J1 ?_)
  refine zV_tiald (66 * p + 2 * l + r) 4290 dX4_bestStep_29 (md_k_rest hM) (md_z_rest hM) (by omega) (by omega) (by omega) ?_
  refine zV.eq (show ((zI h (o + 7) (66 * p + 2 * l + r)).toInt : Int) = rt P (66 * p + 2 * l + r) from hR _ (by omega)) ?_
  have hb := bst_ex hw hq.1 hq.2.2.1 hq.2.2.2.1
  have hbs : bst P p l r = if lC P p r + rt P (66 * (p + 1) + 2 * l + 1) = rt P (66 * p + 2 * l + r) then (1, 0) else (bsN P p l (rt P (66 * p + 2 * l + r)) 13 (P 4).toNat).getD (0, 0) := rfl
  generalize rt P (66 * p + 2 * l + r) = due at hx0 hb hbs ⊢
  refine zV_istore (lv' := [(0, .ref o), (1, .int (jI (((p : Nat) : Int)))), (2, .int (jI (((l : Nat) : Int)))), (3, .int (jI (((r : Nat) : Int)))), (4, .int (jI (due)))]) dX4_bestStep_30 (by decide) rfl rfl ?_
  refine zV_aload_n 0 dX4_bestStep_32 rfl rfl (Or.inr ⟨_, rfl⟩) ?_
  refine zV_iload_n 1 dX4_bestStep_33 rfl rfl ?_
  refine zV_iload_n 3 dX4_bestStep_34 rfl rfl ?_
  refine zc_V (y' := zX4_literalCost) (as := [.int (jI (((p : Nat) : Int))), .int (jI (((r : Nat) : Int)))]) (rest := []) (ci := 3) (q := (RX4, TX4, 27)) bX4_literalCost dX4_bestStep_35 q2333 q2335 qs101 (md_k hM) rfl (c_X4_literalCost hM hP hw p r hq.1 (by omega)) rfl rfl (by decide) (Nat.le_of_ble_eq_true rfl) (by decide) (zk_J1 ?_)
  refine zV_aload_n 0 dX4_bestStep_38 rfl rfl (Or.inr ⟨_, rfl⟩) ?_
  refine zV_getf (v := .ref (o + 7)) (ci := 3) (q := (RX4, TX4, 27)) 9 dX4_bestStep_39 q1926 (md_k hM) rfl (by decide) (congrArg va_rf (md_r_rest hM)) (by decide) ?_
  refine zV_iload_n 1 dX4_bestStep_42 rfl rfl ?_
  refine zV_iconst (n := 1) dX4_bestStep_43 ?_
  refine zV_jadd dX4_bestStep_44 ?_
  refine zV.eq (show (((p : Nat) : Int) + 1 : Int) = ((p + 1 : Nat) : Int) from by omega) ?_
  refine zV_iload_n 2 dX4_bestStep_45 rfl rfl ?_
  refine zV_iconst (n := 1) dX4_bestStep_46 ?_
  refine zc_S (y' := zX4_state) (as := [.int (jI (((p + 1 : Nat) : Int))), .int (jI (((l : Nat) : Int))), .int (jI (1))]) (rest := [.ref (o + 7), .int (jI (lC P p r))]) bX4_state dX4_bestStep_47 q2321 q2322 (c_X4_state (p + 1) l 1 (by omega)) rfl rfl (by decide) (Nat.le_of_ble_eq_true rfl) (zk_J1 ?_)
  refine zV_tiald (66 * (p + 1) + 2 * l + 1) 4290 dX4_bestStep_50 (md_k_rest hM) (md_z_rest hM) (by omega) (by omega) (by omega) ?_
  refine zV.eq (show ((zI h (o + 7) (66 * (p + 1) + 2 * l + 1)).toInt : Int) = rt P (66 * (p + 1) + 2 * l + 1) from hR _ (by omega)) ?_
  refine zV_jadd dX4_bestStep_51 ?_
  refine zV_iload dX4_bestStep_52 rfl ?_
  refine zV_jcmp_ne 64 dX4_bestStep_54 rfl ⟨by omega, by omega⟩ ⟨by omega, by omega⟩ (fun c1 => ?_) (fun c1 => ?_)
  · have hb2 := hb c1
    rw [if_neg c1] at hbs
    refine zV_aload_n 0 dX4_bestStep_64 rfl rfl (Or.inr ⟨_, rfl⟩) ?_
    refine zV_iconst (n := 3) dX4_bestStep_65 ?_
    refine zc_V (y' := zX4_set) (as := [.int (jI (3))]) (rest := []) (ci := 3) (q := (RX4, TX4, 27)) bX4_set dX4_bestStep_66 q2157 q2159 qs73 (md_k hM) rfl (c_X4_set hM hP 3 (by omega)) rfl rfl (by decide) (Nat.le_of_ble_eq_true rfl) (by decide) (zk_J1 ?_)
    refine zV.eq (show (P (3 + 1) : Int) = P 4 from rfl) ?_
    refine zV.eq (show (P 4 : Int) = (((P 4).toNat : Nat) : Int) from by omega) ?_
    refine zV_istore (lv' := [(0, .ref o), (1, .int (jI (((p : Nat) : Int)))), (2, .int (jI (((l : Nat) : Int)))), (3, .int (jI (((r : Nat) : Int)))), (4, .int (jI (due))), (5, .int (jI ((((P 4).toNat : Nat) : Int))))]) dX4_bestStep_69 (by decide) rfl rfl ?_
    have key : ∀ f n : Nat, n ≤ 12 → bsN P p l due f n = bsN P p l due 13 (P 4).toNat → zV G zX4_bestStep 3 71 [(0, .ref o), (1, .int (jI (((p : Nat) : Int)))), (2, .int (jI (((l : Nat) : Int)))), (3, .int (jI (((r : Nat) : Int)))), (4, .int (jI (due))), (5, .int (jI (((n : Nat) : Int))))] [] h (zOkV (fun h1 => zPs o h h1 ∧ PsM h1 o P 3 (i + 1))) := by
      intro f
      induction f with
      | zero => exact fun n _ h2 => absurd h2.symm hb2
      | succ f ih =>
        intro n h1 h2
        refine zV_iload dX4_bestStep_71 rfl ?_
        refine zV_aload_n 0 dX4_bestStep_73 rfl rfl (Or.inr ⟨_, rfl⟩) ?_
        refine zV_iconst (n := 2) dX4_bestStep_74 ?_
        refine zc_V (y' := zX4_set) (as := [.int (jI (2))]) (rest := [.int (jI (((n : Nat) : Int)))]) (ci := 3) (q := (RX4, TX4, 27)) bX4_set dX4_bestStep_75 q2157 q2159 qs73 (md_k hM) rfl (c_X4_set hM hP 2 (by omega)) rfl rfl (by decide) (Nat.le_of_ble_eq_true rfl) (by decide) (zk_J1 ?_)
        refine zV.eq (show (P (2 + 1) : Int) = P 3 from rfl) ?_
        refine zV_jcmp_lt 157 dX4_bestStep_78 rfl ⟨by omega, by omega⟩ (by rw [← hP]; exact jr_toInt _) (fun c3 => ?_) (fun c3 => ?_)
        · rw [bsN, if_pos c3] at h2
          exact absurd h2.symm hb2
        · refine zV_iconst (n := 1) dX4_bestStep_81 ?_
          refine zV_istore (lv' := [(0, .ref o), (1, .int (jI (((p : Nat) : Int)))), (2, .int (jI (((l : Nat) : Int)))), (3, .int (jI (((r : Nat) : Int)))), (4, .int (jI (due))), (5, .int (jI (((n : Nat) : Int)))), (6, .int (jI (1)))]) dX4_bestStep_82 (by decide) rfl rfl ?_
          have key2 : ∀ f2 d : Nat, d + f2 = 33 → 1 ≤ d → bsD P p l due n f2 d = bsD P p l due n 32 1 → zV G zX4_bestStep 3 84 [(0, .ref o), (1, .int (jI (((p : Nat) : Int)))), (2, .int (jI (((l : Nat) : Int)))), (3, .int (jI (((r : Nat) : Int)))), (4, .int (jI (due))), (5, .int (jI (((n : Nat) : Int)))), (6, .int (jI (((d : Nat) : Int))))] [] h (zOkV (fun h1 => zPs o h h1 ∧ PsM h1 o P 3 (i + 1))) := by
            intro f2
            induction f2 with
            | zero =>
              intro d h3 h4 h5
              refine zV_iload dX4_bestStep_84 rfl ?_
              refine zV_jbipush dX4_bestStep_86 (by decide) ?_
              refine zV_jcmp_ge 151 dX4_bestStep_88 rfl ⟨by omega, by omega⟩ ⟨by decide, by decide⟩ (fun c4 => ?_) (fun c_ => absurd c_ (by omega))
              refine zV_jinc (lv' := [(0, .ref o), (1, .int (jI (((p : Nat) : Int)))), (2, .int (jI (((l : Nat) : Int)))), (3, .int (jI (((r : Nat) : Int)))), (4, .int (jI (due))), (5, .int (jI (((n : Nat) : Int) + (-1)))), (6, .int (jI (((d : Nat) : Int))))]) dX4_bestStep_151 rfl (by decide) rfl rfl ?_
              refine zV_goto 71 dX4_bestStep_154 rfl ?_
              refine zV.loc (lv' := [(0, .ref o), (1, .int (jI (((p : Nat) : Int)))), (2, .int (jI (((l : Nat) : Int)))), (3, .int (jI (((r : Nat) : Int)))), (4, .int (jI (due))), (5, .int (jI (((n : Nat) : Int) + (-1))))]) (fun q_ hq_ => (List.Sublist.cons₂ _ (List.Sublist.cons₂ _ (List.Sublist.cons₂ _ (List.Sublist.cons₂ _ (List.Sublist.cons₂ _ (List.Sublist.cons₂ _ (List.Sublist.cons _ List.Sublist.slnil))))))).subset hq_) ?_
              rw [show (((n : Nat) : Int) + (-1) : Int) = ((n - 1 : Nat) : Int) from by omega]
              rw [bsN, if_neg (by omega), ← h5] at h2
              exact ih (n - 1) (by omega) h2
            | succ f2 ih2 =>
              intro d h3 h4 h5
              have hlp := lg_p (P := P) (p := p) (d := d)
              have hl12 := hlg0 p d
              refine zV_iload dX4_bestStep_84 rfl ?_
              refine zV_jbipush dX4_bestStep_86 (by decide) ?_
              refine zV_jcmp_ge 151 dX4_bestStep_88 rfl ⟨by omega, by omega⟩ ⟨by decide, by decide⟩ (fun c_ => absurd c_ (by omega)) (fun c4 => ?_)
              refine zV_aload_n 0 dX4_bestStep_91 rfl rfl (Or.inr ⟨_, rfl⟩) ?_
              refine zV_iload_n 1 dX4_bestStep_92 rfl rfl ?_
              refine zV_iload dX4_bestStep_93 rfl ?_
              refine zc_V (y' := zX4_longestAt) (as := [.int (jI (((p : Nat) : Int))), .int (jI (((d : Nat) : Int)))]) (rest := []) (ci := 3) (q := (RX4, TX4, 27)) bX4_longestAt dX4_bestStep_95 q2210 q2212 qs84 (md_k hM) rfl (c_X4_longestAt hM p (d) (by omega) (by omega)) rfl rfl (by decide) (Nat.le_of_ble_eq_true rfl) (by decide) (zk_J1 ?_)
              refine zV.eq (show (gI h (o + 6) (33 * p + d) : Int) = ((lg P p d : Nat) : Int) from hL p _ (by omega) (by omega) (by omega)) ?_
              refine zV_iload dX4_bestStep_98 rfl ?_
              refine zV_jcmp_lt 145 dX4_bestStep_100 rfl ⟨by omega, by omega⟩ ⟨by omega, by omega⟩ (fun c5 => ?_) (fun c5 => ?_)
              · refine zV_jinc (lv' := [(0, .ref o), (1, .int (jI (((p : Nat) : Int)))), (2, .int (jI (((l : Nat) : Int)))), (3, .int (jI (((r : Nat) : Int)))), (4, .int (jI (due))), (5, .int (jI (((n : Nat) : Int)))), (6, .int (jI (((d : Nat) : Int) + 1)))]) dX4_bestStep_145 rfl (by decide) rfl rfl ?_
                refine zV_goto 84 dX4_bestStep_148 rfl ?_
                rw [show (((d : Nat) : Int) + 1 : Int) = ((d + 1 : Nat) : Int) from by omega]
                rw [bsD, if_neg (fun z => by have := z.1; omega)] at h5
                exact ih2 (d + 1) (by omega) (by omega) h5
              · have hx2 := (rt_rB hw).b hw (j := 66 * (p + n) + 2 * d) (by omega) (by omega)
                have hc := cC_b hw n d l
                refine zV_aload_n 0 dX4_bestStep_103 rfl rfl (Or.inr ⟨_, rfl⟩) ?_
                refine zV_iload dX4_bestStep_104 rfl ?_
                refine zV_iload dX4_bestStep_106 rfl ?_
                refine zV_iload_n 2 dX4_bestStep_108 rfl rfl ?_
                refine zc_V (y' := zX4_copyCost) (as := [.int (jI (((n : Nat) : Int))), .int (jI (((d : Nat) : Int))), .int (jI (((l : Nat) : Int)))]) (rest := []) (ci := 3) (q := (RX4, TX4, 27)) bX4_copyCost dX4_bestStep_109 q2299 q2301 qs96 (md_k hM) rfl (c_X4_copyCost hM hP n d l (by omega) (by omega) (by omega)) rfl rfl (by decide) (Nat.le_of_ble_eq_true rfl) (by decide) (zk_J1 ?_)
                refine zV_aload_n 0 dX4_bestStep_112 rfl rfl (Or.inr ⟨_, rfl⟩) ?_
                refine zV_getf (v := .ref (o + 7)) (ci := 3) (q := (RX4, TX4, 27)) 9 dX4_bestStep_113 q1926 (md_k hM) rfl (by decide) (congrArg va_rf (md_r_rest hM)) (by decide) ?_
                refine zV_iload_n 1 dX4_bestStep_116 rfl rfl ?_
                refine zV_iload dX4_bestStep_117 rfl ?_
                refine zV_jadd dX4_bestStep_119 ?_
                refine zV.eq (show (((p : Nat) : Int) + ((n : Nat) : Int) : Int) = ((p + n : Nat) : Int) from by omega) ?_
                refine zV_iload dX4_bestStep_120 rfl ?_
                refine zV_iconst (n := 0) dX4_bestStep_122 ?_
                refine zc_S (y' := zX4_state) (as := [.int (jI (((p + n : Nat) : Int))), .int (jI (((d : Nat) : Int))), .int (jI (0))]) (rest := [.ref (o + 7), .int (jI (cC P n d l))]) bX4_state dX4_bestStep_123 q2321 q2322 (c_X4_state (p + n) d 0 (by omega)) rfl rfl (by decide) (Nat.le_of_ble_eq_true rfl) (zk_J1 ?_)
                refine zV.eq (show (((66 * (p + n) + 2 * d + 0 : Nat) : Int) : Int) = ((66 * (p + n) + 2 * d : Nat) : Int) from by omega) ?_
                refine zV_tiald (66 * (p + n) + 2 * d) 4290 dX4_bestStep_126 (md_k_rest hM) (md_z_rest hM) (by omega) (by omega) (by omega) ?_
                refine zV.eq (show ((zI h (o + 7) (66 * (p + n) + 2 * d)).toInt : Int) = rt P (66 * (p + n) + 2 * d) from hR _ (by omega)) ?_
                refine zV_jadd dX4_bestStep_127 ?_
                refine zV_iload dX4_bestStep_128 rfl ?_
                refine zV_jcmp_eq 136 dX4_bestStep_130 rfl ⟨by omega, by omega⟩ ⟨by omega, by omega⟩ (fun c6 => ?_) (fun c6 => ?_)
                · refine zV_aload_n 0 dX4_bestStep_136 rfl rfl (Or.inr ⟨_, rfl⟩) ?_
                  refine zV_iload dX4_bestStep_137 rfl ?_
                  refine zV_iload dX4_bestStep_139 rfl ?_
                  rw [bsD, if_pos ⟨by omega, c6⟩] at h5
                  rw [bsN, if_neg (by omega), ← h5] at h2
                  refine zc_V (y' := zX4_steps0) (as := [.int (jI (((n : Nat) : Int))), .int (jI (((d : Nat) : Int)))]) (rest := []) (ci := 3) (q := (RX4, TX4, 27)) bX4_steps0 dX4_bestStep_141 q2341 q2343 qs103 (md_k hM) rfl (hst n d (by rw [hch, hbs, ← h2]; rfl)) rfl rfl (by decide) (Nat.le_of_ble_eq_true rfl) (by decide) (zk_V (fun h1 ⟨j1, j2⟩ _ => ?_))
                  exact zV_return dX4_bestStep_144 rfl ⟨rfl, j1, j2⟩
                · refine zV_goto 145 dX4_bestStep_133 rfl ?_
                  refine zV_jinc (lv' := [(0, .ref o), (1, .int (jI (((p : Nat) : Int)))), (2, .int (jI (((l : Nat) : Int)))), (3, .int (jI (((r : Nat) : Int)))), (4, .int (jI (due))), (5, .int (jI (((n : Nat) : Int)))), (6, .int (jI (((d : Nat) : Int) + 1)))]) dX4_bestStep_145 rfl (by decide) rfl rfl ?_
                  refine zV_goto 84 dX4_bestStep_148 rfl ?_
                  rw [show (((d : Nat) : Int) + 1 : Int) = ((d + 1 : Nat) : Int) from by omega]
                  rw [bsD, if_neg (fun z => c6 z.2)] at h5
                  exact ih2 (d + 1) (by omega) (by omega) h5
          exact key2 32 1 (by omega) (by omega) rfl
    exact key 13 (P 4).toNat (by omega) rfl
  · refine zV_aload_n 0 dX4_bestStep_57 rfl rfl (Or.inr ⟨_, rfl⟩) ?_
    refine zV_iconst (n := 1) dX4_bestStep_58 ?_
    refine zV_iconst (n := 0) dX4_bestStep_59 ?_
    refine zc_V (y' := zX4_steps0) (as := [.int (jI (1)), .int (jI (0))]) (rest := []) (ci := 3) (q := (RX4, TX4, 27)) bX4_steps0 dX4_bestStep_60 q2341 q2343 qs103 (md_k hM) rfl (hst 1 0 (by rw [hch, hbs, if_pos c1])) rfl rfl (by decide) (Nat.le_of_ble_eq_true rfl) (by decide) (zk_V (fun h1 ⟨j1, j2⟩ _ => ?_))
    exact zV_return dX4_bestStep_63 rfl ⟨rfl, j1, j2⟩
/-- what a parse laid changes -/
def zPL (o : Nat) : zH → zH → Prop := zCh [o + 6, o + 7, o + 9, o + 10, o + 11] o [14]
theorem c_X4_laysParse (hM : MdL h o) (hP : gI h (o + 1) = P) (hw : pWf P) (k : Nat) (hk : k < 4) : zM G zX4_laysParse 6 [.ref o, .int (jI (k : Int))] h (zOkV (fun h1 => zPL o h h1 ∧ PsM h1 o P k (qN P k) ∧ LC P (gI h1 (o + 6)))) := by
  obtain ⟨w0, w0b, w1, w1b, w2, w2b, w3, w3b, w4, w4b, w5, w5b, wp, wl, wn⟩ := id hw
  refine zM.ofV (lv := [(0, .ref o), (1, .int (jI (((k : Nat) : Int))))]) (by decide +kernel) (Nat.le_of_ble_eq_true rfl) rfl ?_
  refine zV_aload_n 0 dX4_laysParse_0 rfl rfl (Or.inr ⟨_, rfl⟩) ?_
  refine zV_iconst (n := 0) dX4_laysParse_1 ?_
  refine zV_putI (x := jI (0)) (ci := 3) (q := (RX4, TX4, 27)) 14 dX4_laysParse_2 q1931 (md_ge hM) (md_k hM) rfl (by decide) rfl (fun _ _ => rfl) rfl rfl (by decide) ?_
  have i0 : zPL o h (sI h o 14 (jI 0)) := zCh.rf.puto (by simp)
  have hM0 := hM.ch i0
  have hP0 : gI (sI h o 14 (jI 0)) (o + 1) = P := (i0.row (by simp)).trans hP
  have hS0 : PsM (sI h o 14 (jI 0)) o P k 0 := ⟨by rw [gI_put ⟨by decide, by decide⟩, if_pos ⟨rfl, rfl⟩]; rfl, fun j hj => absurd hj (by omega)⟩
  generalize sI h o 14 (jI 0) = h0 at i0 hM0 hP0 hS0 ⊢
  have key : ∀ f i : Nat, ∀ g : zH, i + f = qN P k → zPL o h g → PsM g o P k i → LC P (gI g (o + 6)) → (k = 3 → ∀ j, j < 66 * ((P 0).toNat + 1) → gI g (o + 7) j = rt P j) → zV G zX4_laysParse 6 22 [(0, .ref o), (1, .int (jI (((k : Nat) : Int))))] [] g (zOkV (fun h1 => zPL o h h1 ∧ PsM h1 o P k (qN P k) ∧ LC P (gI h1 (o + 6)))) := by
    intro f
    induction f with
    | zero =>
      intro i g h1 i1 i2 i3 i4
      have hM2 : MdL g o := hM.ch i1
      have hP2 : gI g (o + 1) = P := (i1.row (by simp)).trans hP
      refine zV_aload_n 0 dX4_laysParse_22 rfl rfl (Or.inr ⟨_, rfl⟩) ?_
      have he := (qN_ok hw k).2.1
      have he2 : (qP P k (qN P k) : Int) = P 0 := he
      obtain rfl : i = qN P k := by omega
      refine zc_V (y' := zX4_ends) (as := []) (rest := []) (ci := 3) (q := (RX4, TX4, 27)) bX4_ends dX4_laysParse_23 q2337 q2339 qs102 (md_k hM2) rfl (c_X4_ends hM2 hw i2 (by omega)) rfl rfl (by decide) (Nat.le_of_ble_eq_true rfl) (by decide) (zk_J1 ?_)
      refine zV_aload_n 0 dX4_laysParse_26 rfl rfl (Or.inr ⟨_, rfl⟩) ?_
      refine zc_V (y' := zX4_many) (as := []) (rest := [.int (jI (((qP P k (qN P k) : Nat) : Int)))]) (ci := 3) (q := (RX4, TX4, 27)) bX4_many dX4_laysParse_27 q2042 q2044 qs50 (md_k hM2) rfl (c_X4_many hM2 hP2) rfl rfl (by decide) (Nat.le_of_ble_eq_true rfl) (by decide) (zk_J1 ?_)
      refine zV_jcmp_ge 75 dX4_laysParse_30 rfl ⟨by omega, by omega⟩ (by rw [← hP2]; exact jr_toInt _) (fun c1 => ?_) (fun c_ => absurd c_ (by omega))
      exact zV_return dX4_laysParse_75 rfl ⟨rfl, i1, i2, i3⟩
    | succ f ih =>
      intro i g h1 i1 i2 i3 i4
      have hM2 : MdL g o := hM.ch i1
      have hP2 : gI g (o + 1) = P := (i1.row (by simp)).trans hP
      refine zV_aload_n 0 dX4_laysParse_22 rfl rfl (Or.inr ⟨_, rfl⟩) ?_
      have hq := q_b hw (k := k) (j := i) (by omega)
      refine zc_V (y' := zX4_ends) (as := []) (rest := []) (ci := 3) (q := (RX4, TX4, 27)) bX4_ends dX4_laysParse_23 q2337 q2339 qs102 (md_k hM2) rfl (c_X4_ends hM2 hw i2 (by omega)) rfl rfl (by decide) (Nat.le_of_ble_eq_true rfl) (by decide) (zk_J1 ?_)
      refine zV_aload_n 0 dX4_laysParse_26 rfl rfl (Or.inr ⟨_, rfl⟩) ?_
      refine zc_V (y' := zX4_many) (as := []) (rest := [.int (jI (((qP P k i : Nat) : Int)))]) (ci := 3) (q := (RX4, TX4, 27)) bX4_many dX4_laysParse_27 q2042 q2044 qs50 (md_k hM2) rfl (c_X4_many hM2 hP2) rfl rfl (by decide) (Nat.le_of_ble_eq_true rfl) (by decide) (zk_J1 ?_)
      refine zV_jcmp_ge 75 dX4_laysParse_30 rfl ⟨by omega, by omega⟩ (by rw [← hP2]; exact jr_toInt _) (fun c_ => absurd c_ (by omega)) (fun c1 => ?_)
      refine zV_iload_n 1 dX4_laysParse_33 rfl rfl ?_
      refine zV_jif_ne 46 dX4_laysParse_34 rfl ⟨by omega, by omega⟩ (fun c2 => ?_) (fun c2 => ?_)
      · refine zV_iload_n 1 dX4_laysParse_46 rfl rfl ?_
        refine zV_iconst (n := 3) dX4_laysParse_47 ?_
        refine zV_jcmp_ne 58 dX4_laysParse_48 rfl ⟨by omega, by omega⟩ ⟨by decide, by decide⟩ (fun c3 => ?_) (fun c3 => ?_)
        · refine zV_aload_n 0 dX4_laysParse_58 rfl rfl (Or.inr ⟨_, rfl⟩) ?_
          refine zV_iload_n 1 dX4_laysParse_59 rfl rfl ?_
          refine zV_iconst (n := 2) dX4_laysParse_60 ?_
          refine zV_jcmp_ne 68 dX4_laysParse_61 rfl ⟨by omega, by omega⟩ ⟨by decide, by decide⟩ (fun c4 => ?_) (fun c4 => ?_)
          · refine zV_iconst (n := 0) dX4_laysParse_68 ?_
            refine zV.eq (show (0 : Int) = bI (k = 2) from (bI_f (by omega)).symm) ?_
            refine zc_V (y' := zX4_greedyStep) (as := [.int (jI (bI (k = 2)))]) (rest := []) (ci := 3) (q := (RX4, TX4, 27)) bX4_greedyStep dX4_laysParse_69 q2361 q2363 qs108 (md_k hM2) rfl (c_X4_greedyStep hM2 hP2 hw i3 i2 (by omega) (by omega) (by omega)) rfl rfl (by decide) (Nat.le_of_ble_eq_true rfl) (by decide) (zk_V (fun h1 ⟨j1, j2⟩ _ => ?_))
            refine zV_goto 22 dX4_laysParse_72 rfl ?_
            have i5 : zPL o h h1 := i1.tr (j1.mono (by simp) (by simp))
            refine ih (i + 1) h1 (by omega) i5 j2 (by rw [j1.row (by simp)]; exact i3) (fun e j hj => by rw [j1.row (by simp)]; exact i4 e j hj)
          · refine zV_iconst (n := 1) dX4_laysParse_64 ?_
            refine zV_goto 69 dX4_laysParse_65 rfl ?_
            refine zV.eq (show (1 : Int) = bI (k = 2) from (bI_t (by omega)).symm) ?_
            refine zc_V (y' := zX4_greedyStep) (as := [.int (jI (bI (k = 2)))]) (rest := []) (ci := 3) (q := (RX4, TX4, 27)) bX4_greedyStep dX4_laysParse_69 q2361 q2363 qs108 (md_k hM2) rfl (c_X4_greedyStep hM2 hP2 hw i3 i2 (by omega) (by omega) (by omega)) rfl rfl (by decide) (Nat.le_of_ble_eq_true rfl) (by decide) (zk_V (fun h1 ⟨j1, j2⟩ _ => ?_))
            refine zV_goto 22 dX4_laysParse_72 rfl ?_
            have i5 : zPL o h h1 := i1.tr (j1.mono (by simp) (by simp))
            refine ih (i + 1) h1 (by omega) i5 j2 (by rw [j1.row (by simp)]; exact i3) (fun e j hj => by rw [j1.row (by simp)]; exact i4 e j hj)
        · refine zV_aload_n 0 dX4_laysParse_51 rfl rfl (Or.inr ⟨_, rfl⟩) ?_
          obtain rfl : k = 3 := by omega
          refine zc_V (y' := zX4_bestStep) (as := []) (rest := []) (ci := 3) (q := (RX4, TX4, 27)) bX4_bestStep dX4_laysParse_52 q2345 q2347 qs104 (md_k hM2) rfl (c_X4_bestStep hM2 hP2 hw i3 (i4 rfl) i2 (by omega)) rfl rfl (by decide) (Nat.le_of_ble_eq_true rfl) (by decide) (zk_V (fun h1 ⟨j1, j2⟩ _ => ?_))
          refine zV_goto 22 dX4_laysParse_55 rfl ?_
          have i5 : zPL o h h1 := i1.tr (j1.mono (by simp) (by simp))
          refine ih (i + 1) h1 (by omega) i5 j2 (by rw [j1.row (by simp)]; exact i3) (fun e j hj => by rw [j1.row (by simp)]; exact i4 e j hj)
      · refine zV_aload_n 0 dX4_laysParse_37 rfl rfl (Or.inr ⟨_, rfl⟩) ?_
        refine zV_iconst (n := 1) dX4_laysParse_38 ?_
        refine zV_iconst (n := 0) dX4_laysParse_39 ?_
        refine zc_V (y' := zX4_steps0) (as := [.int (jI (1)), .int (jI (0))]) (rest := []) (ci := 3) (q := (RX4, TX4, 27)) bX4_steps0 dX4_laysParse_40 q2341 q2343 qs103 (md_k hM2) rfl (c_X4_steps0 hM2 hw i2 (by omega) 1 0 (by rw [cha, chs, if_pos (by omega)])) rfl rfl (by decide) (Nat.le_of_ble_eq_true rfl) (by decide) (zk_V (fun h1 ⟨j1, j2⟩ _ => ?_))
        refine zV_goto 22 dX4_laysParse_43 rfl ?_
        have i5 : zPL o h h1 := i1.tr (j1.mono (by simp) (by simp))
        refine ih (i + 1) h1 (by omega) i5 j2 (by rw [j1.row (by simp)]; exact i3) (fun e j hj => by rw [j1.row (by simp)]; exact i4 e j hj)
  refine zV_iload_n 1 dX4_laysParse_5 rfl rfl ?_
  refine zV_iconst (n := 3) dX4_laysParse_6 ?_
  refine zV_jcmp_ne 18 dX4_laysParse_7 rfl ⟨by omega, by omega⟩ ⟨by decide, by decide⟩ (fun c0 => ?_) (fun c0 => ?_)
  · refine zV_aload_n 0 dX4_laysParse_18 rfl rfl (Or.inr ⟨_, rfl⟩) ?_
    refine zc_V (y' := zX4_laysCopies) (as := []) (rest := []) (ci := 3) (q := (RX4, TX4, 27)) bX4_laysCopies dX4_laysParse_19 q2190 q2192 qs79 (md_k hM0) rfl (c_X4_laysCopies hM0 hP0 hw) rfl rfl (by decide) (Nat.le_of_ble_eq_true rfl) (by decide) (zk_V (fun h1 ⟨j1, j2⟩ _ => ?_))
    have i1 : zPL o h h1 := i0.tr (zCh.io (j1.mono (by simp)) (by simp))
    exact key _ 0 h1 (Nat.zero_add _) i1 ⟨by rw [j1.row (by simp)]; exact hS0.1, fun j hj => absurd hj (by omega)⟩ j2 (fun e => absurd e (by omega))
  · refine zV_aload_n 0 dX4_laysParse_10 rfl rfl (Or.inr ⟨_, rfl⟩) ?_
    refine zc_V (y' := zX4_laysRest) (as := []) (rest := []) (ci := 3) (q := (RX4, TX4, 27)) bX4_laysRest dX4_laysParse_11 q2317 q2319 qs98 (md_k hM0) rfl (c_X4_laysRest hM0 hP0 hw) rfl rfl (by decide) (Nat.le_of_ble_eq_true rfl) (by decide) (zk_I (fun z h1 ⟨_, j1, j2, j3⟩ _ => ?_))
    refine zV_istore_n (lv' := [(0, .ref o), (1, .int (jI (((k : Nat) : Int)))), (2, .int (jI (z)))]) 2 dX4_laysParse_14 rfl (by decide) rfl rfl ?_
    refine zV_goto 22 dX4_laysParse_15 rfl ?_
    refine zV.loc (lv' := [(0, .ref o), (1, .int (jI (((k : Nat) : Int))))]) (fun q_ hq_ => (List.Sublist.cons₂ _ (List.Sublist.cons₂ _ (List.Sublist.cons _ List.Sublist.slnil))).subset hq_) ?_
    have i1 : zPL o h h1 := i0.tr (zCh.io (j1.mono (by simp)) (by simp))
    exact key _ 0 h1 (Nat.zero_add _) i1 ⟨by rw [j1.row (by simp)]; exact hS0.1, fun j hj => absurd hj (by omega)⟩ j2 (fun _ => j3)
theorem c_X4_costOf (hM : MdL h o) (hP : gI h (o + 1) = P) (hw : pWf P) (k : Nat) (hk : k < 4) : zM G zX4_costOf 7 [.ref o, .int (jI (k : Int))] h (zOkI (fun z h1 => z = qS P k ∧ zPL o h h1 ∧ PsM h1 o P k (qN P k) ∧ LC P (gI h1 (o + 6)))) := by
  refine zM.ofV (lv := [(0, .ref o), (1, .int (jI (((k : Nat) : Int))))]) (by decide +kernel) (Nat.le_of_ble_eq_true rfl) rfl ?_
  refine zV_aload_n 0 dX4_costOf_0 rfl rfl (Or.inr ⟨_, rfl⟩) ?_
  refine zV_iload_n 1 dX4_costOf_1 rfl rfl ?_
  refine zc_V (y' := zX4_laysParse) (as := [.int (jI (((k : Nat) : Int)))]) (rest := []) (ci := 3) (q := (RX4, TX4, 27)) bX4_laysParse dX4_costOf_2 q2313 q2315 qs97 (md_k hM) rfl (c_X4_laysParse hM hP hw k hk) rfl rfl (by decide) (Nat.le_of_ble_eq_true rfl) (by decide) (zk_V (fun h1 ⟨i1, i2, i3⟩ _ => ?_))
  have hM2 : MdL h1 o := hM.ch i1
  have hP2 : gI h1 (o + 1) = P := (i1.row (by simp)).trans hP
  refine zV_aload_n 0 dX4_costOf_5 rfl rfl (Or.inr ⟨_, rfl⟩) ?_
  refine zc_V (y' := zX4_parseCost) (as := []) (rest := []) (ci := 3) (q := (RX4, TX4, 27)) bX4_parseCost dX4_costOf_6 q2389 q2391 qs112 (md_k hM2) rfl (c_X4_parseCost hM2 hP2 hw i2) rfl rfl (by decide) (Nat.le_of_ble_eq_true rfl) (by decide) (zk_J1 ?_)
  exact zV_ireturn dX4_costOf_9 rfl rfl ⟨_, rfl, rfl, i1, i2, i3⟩
end M9
