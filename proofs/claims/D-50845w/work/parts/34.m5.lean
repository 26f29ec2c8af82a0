/-! ===== THE MODEL, 5: what copies there are, prices (printed by a program of gen/) ===== -/
set_option maxRecDepth 100000
section M5
variable {G : zG} {h : zH} {o : Nat} {P : pRow}
theorem c_X4_copiesAt (hM : MdL h o) (hP : gI h (o + 1) = P) (hw : pWf P) (hL : LC P (gI h (o + 6))) (p : Nat) (hp : (p : Int) < P 0) : zM G zX4_copiesAt 1 [.ref o, .int (jI (p : Int))] h (zJ h (some (.int (jI (nCp P p))))) := by
  obtain ⟨w0, w0b, w1, w1b, w2, w2b, w3, w3b, w4, w4b, w5, w5b, wp, wl, wn⟩ := id hw
  have hlg : ∀ d, lg P p d ≤ 12 := fun d => by have := lg_le P p d; omega
  refine zM.ofV (lv := [(0, .ref o), (1, .int (jI ((p : Int))))]) (by decide +kernel) (Nat.le_of_ble_eq_true rfl) rfl ?_
  refine zV_iconst (n := 0) dX4_copiesAt_0 ?_
  refine zV_istore_n (lv' := [(0, .ref o), (1, .int (jI ((p : Int)))), (2, .int (jI (0)))]) 2 dX4_copiesAt_1 rfl (by decide) rfl rfl ?_
  refine zV_iconst (n := 1) dX4_copiesAt_2 ?_
  refine zV_istore_n (lv' := [(0, .ref o), (1, .int (jI ((p : Int)))), (2, .int (jI (0))), (3, .int (jI (1)))]) 3 dX4_copiesAt_3 rfl (by decide) rfl rfl ?_
  have key : ∀ f d : Nat, ∀ a : Int, d + f = 33 → 1 ≤ d → zV G zX4_copiesAt 1 4 [(0, .ref o), (1, .int (jI ((p : Int)))), (2, .int (jI ((a : Int)))), (3, .int (jI (((d : Nat) : Int))))] [] h (zJ h (some (.int (jI (fU (fun d a => a + (if (lg P p d : Int) = 0 then 0 else (lg P p d : Int) - P 3 + 1)) f d a))))) := by
    intro f
    induction f with
    | zero =>
      intro d a h1 h2
      refine zV_iload_n 3 dX4_copiesAt_4 rfl rfl ?_
      refine zV_jbipush dX4_copiesAt_5 (by decide) ?_
      refine zV_jcmp_ge 46 dX4_copiesAt_7 rfl ⟨by omega, by omega⟩ ⟨by decide, by decide⟩ (fun c1 => ?_) (fun c_ => absurd c_ (by omega))
      refine zV_iload_n 2 dX4_copiesAt_46 rfl rfl ?_
      exact zV_ireturn dX4_copiesAt_47 rfl rfl ⟨rfl, rfl⟩
    | succ f ih =>
      intro d a h1 h2
      refine zV_iload_n 3 dX4_copiesAt_4 rfl rfl ?_
      refine zV_jbipush dX4_copiesAt_5 (by decide) ?_
      refine zV_jcmp_ge 46 dX4_copiesAt_7 rfl ⟨by omega, by omega⟩ ⟨by decide, by decide⟩ (fun c_ => absurd c_ (by omega)) (fun c1 => ?_)
      refine zV_aload_n 0 dX4_copiesAt_10 rfl rfl (Or.inr ⟨_, rfl⟩) ?_
      refine zV_iload_n 1 dX4_copiesAt_11 rfl rfl ?_
      refine zV_iload_n 3 dX4_copiesAt_12 rfl rfl ?_
      refine zc_V (y' := zX4_longestAt) (as := [.int (jI ((p : Int))), .int (jI (((d : Nat) : Int)))]) (rest := []) (ci := 3) (q := (RX4, TX4, 27)) bX4_longestAt dX4_copiesAt_13 q2210 q2212 qs84 (md_k hM) rfl (c_X4_longestAt hM p (d) (by omega) (by omega)) rfl rfl (by decide) (Nat.le_of_ble_eq_true rfl) (by decide) (zk_J1 ?_)
      refine zV.eq (show (gI h (o + 6) (33 * p + d) : Int) = ((lg P p d : Nat) : Int) from hL p _ (by omega) (by omega) (by omega)) ?_
      refine zV_istore (lv' := [(0, .ref o), (1, .int (jI ((p : Int)))), (2, .int (jI ((a : Int)))), (3, .int (jI (((d : Nat) : Int)))), (4, .int (jI (((lg P p d : Nat) : Int))))]) dX4_copiesAt_16 (by decide) rfl rfl ?_
      refine zV_iload_n 2 dX4_copiesAt_18 rfl rfl ?_
      refine zV_iload dX4_copiesAt_19 rfl ?_
      have hl := hlg d
      refine zV_jif_ne 28 dX4_copiesAt_21 rfl ⟨by omega, by omega⟩ (fun c2 => ?_) (fun c2 => ?_)
      · refine zV_iload dX4_copiesAt_28 rfl ?_
        refine zV_aload_n 0 dX4_copiesAt_30 rfl rfl (Or.inr ⟨_, rfl⟩) ?_
        refine zV_iconst (n := 2) dX4_copiesAt_31 ?_
        refine zc_V (y' := zX4_set) (as := [.int (jI (2))]) (rest := [.int (jI (((lg P p d : Nat) : Int))), .int (jI ((a : Int)))]) (ci := 3) (q := (RX4, TX4, 27)) bX4_set dX4_copiesAt_32 q2157 q2159 qs73 (md_k hM) rfl (c_X4_set hM hP 2 (by omega)) rfl rfl (by decide) (Nat.le_of_ble_eq_true rfl) (by decide) (zk_J1 ?_)
        refine zV.eq (show (P (2 + 1) : Int) = P 3 from rfl) ?_
        refine zV_jsub dX4_copiesAt_35 ?_
        refine zV_iconst (n := 1) dX4_copiesAt_36 ?_
        refine zV_jadd dX4_copiesAt_37 ?_
        refine zV_jadd dX4_copiesAt_38 ?_
        refine zV_istore_n (lv' := [(0, .ref o), (1, .int (jI ((p : Int)))), (2, .int (jI ((a : Int) + ((((lg P p d : Nat) : Int) - (P 3)) + 1)))), (3, .int (jI (((d : Nat) : Int)))), (4, .int (jI (((lg P p d : Nat) : Int))))]) 2 dX4_copiesAt_39 rfl (by decide) rfl rfl ?_
        refine zV_jinc (lv' := [(0, .ref o), (1, .int (jI ((p : Int)))), (2, .int (jI ((a : Int) + ((((lg P p d : Nat) : Int) - (P 3)) + 1)))), (3, .int (jI (((d : Nat) : Int) + 1))), (4, .int (jI (((lg P p d : Nat) : Int))))]) dX4_copiesAt_40 rfl (by decide) rfl rfl ?_
        refine zV_goto 4 dX4_copiesAt_43 rfl ?_
        refine zV.loc (lv' := [(0, .ref o), (1, .int (jI ((p : Int)))), (2, .int (jI ((a : Int) + ((((lg P p d : Nat) : Int) - (P 3)) + 1)))), (3, .int (jI (((d : Nat) : Int) + 1)))]) (fun q_ hq_ => (List.Sublist.cons₂ _ (List.Sublist.cons₂ _ (List.Sublist.cons₂ _ (List.Sublist.cons₂ _ (List.Sublist.cons _ List.Sublist.slnil))))).subset hq_) ?_
        rw [show ((a : Int) + ((((lg P p d : Nat) : Int) - (P 3)) + 1) : Int) = a + (if (lg P p d : Int) = 0 then 0 else (lg P p d : Int) - P 3 + 1) from by rw [if_neg c2]]
        rw [show (((d : Nat) : Int) + 1 : Int) = ((d + 1 : Nat) : Int) from by omega]
        exact ih (d + 1) _ (by omega) (by omega)
      · refine zV_iconst (n := 0) dX4_copiesAt_24 ?_
        refine zV_goto 38 dX4_copiesAt_25 rfl ?_
        refine zV_jadd dX4_copiesAt_38 ?_
        refine zV_istore_n (lv' := [(0, .ref o), (1, .int (jI ((p : Int)))), (2, .int (jI ((a : Int) + 0))), (3, .int (jI (((d : Nat) : Int)))), (4, .int (jI (((lg P p d : Nat) : Int))))]) 2 dX4_copiesAt_39 rfl (by decide) rfl rfl ?_
        refine zV_jinc (lv' := [(0, .ref o), (1, .int (jI ((p : Int)))), (2, .int (jI ((a : Int) + 0))), (3, .int (jI (((d : Nat) : Int) + 1))), (4, .int (jI (((lg P p d : Nat) : Int))))]) dX4_copiesAt_40 rfl (by decide) rfl rfl ?_
        refine zV_goto 4 dX4_copiesAt_43 rfl ?_
        refine zV.loc (lv' := [(0, .ref o), (1, .int (jI ((p : Int)))), (2, .int (jI ((a : Int) + 0))), (3, .int (jI (((d : Nat) : Int) + 1)))]) (fun q_ hq_ => (List.Sublist.cons₂ _ (List.Sublist.cons₂ _ (List.Sublist.cons₂ _ (List.Sublist.cons₂ _ (List.Sublist.cons _ List.Sublist.slnil))))).subset hq_) ?_
        rw [show ((a : Int) + 0 : Int) = a + (if (lg P p d : Int) = 0 then 0 else (lg P p d : Int) - P 3 + 1) from by rw [if_pos (by omega)]]
        rw [show (((d : Nat) : Int) + 1 : Int) = ((d + 1 : Nat) : Int) from by omega]
        exact ih (d + 1) _ (by omega) (by omega)
  exact key 32 1 0 (by omega) (by omega)
theorem c_X4_longestOf (hM : MdL h o) (hP : gI h (o + 1) = P) (hw : pWf P) (hL : LC P (gI h (o + 6))) (p : Nat) (hp : (p : Int) < P 0) : zM G zX4_longestOf 1 [.ref o, .int (jI (p : Int))] h (zJ h (some (.int (jI ((loN P p : Nat) : Int))))) := by
  obtain ⟨w0, w0b, w1, w1b, w2, w2b, w3, w3b, w4, w4b, w5, w5b, wp, wl, wn⟩ := id hw
  have hlg : ∀ d, lg P p d ≤ 12 := fun d => by have := lg_le P p d; omega
  refine zM.ofV (lv := [(0, .ref o), (1, .int (jI ((p : Int))))]) (by decide +kernel) (Nat.le_of_ble_eq_true rfl) rfl ?_
  refine zV_iconst (n := 0) dX4_longestOf_0 ?_
  refine zV_istore_n (lv' := [(0, .ref o), (1, .int (jI ((p : Int)))), (2, .int (jI (0)))]) 2 dX4_longestOf_1 rfl (by decide) rfl rfl ?_
  refine zV_iconst (n := 1) dX4_longestOf_2 ?_
  refine zV_istore_n (lv' := [(0, .ref o), (1, .int (jI ((p : Int)))), (2, .int (jI (0))), (3, .int (jI (1)))]) 3 dX4_longestOf_3 rfl (by decide) rfl rfl ?_
  have key : ∀ f d : Nat, ∀ a : Nat, d + f = 33 → 1 ≤ d → a ≤ 12 → zV G zX4_longestOf 1 4 [(0, .ref o), (1, .int (jI ((p : Int)))), (2, .int (jI (((a : Nat) : Int)))), (3, .int (jI (((d : Nat) : Int))))] [] h (zJ h (some (.int (jI ((fU (fun d a => max a (lg P p d)) f d a : Nat) : Int))))) := by
    intro f
    induction f with
    | zero =>
      intro d a h1 h2 h3
      refine zV_iload_n 3 dX4_longestOf_4 rfl rfl ?_
      refine zV_jbipush dX4_longestOf_5 (by decide) ?_
      refine zV_jcmp_ge 27 dX4_longestOf_7 rfl ⟨by omega, by omega⟩ ⟨by decide, by decide⟩ (fun c1 => ?_) (fun c_ => absurd c_ (by omega))
      refine zV_iload_n 2 dX4_longestOf_27 rfl rfl ?_
      exact zV_ireturn dX4_longestOf_28 rfl rfl ⟨rfl, rfl⟩
    | succ f ih =>
      intro d a h1 h2 h3
      refine zV_iload_n 3 dX4_longestOf_4 rfl rfl ?_
      refine zV_jbipush dX4_longestOf_5 (by decide) ?_
      refine zV_jcmp_ge 27 dX4_longestOf_7 rfl ⟨by omega, by omega⟩ ⟨by decide, by decide⟩ (fun c_ => absurd c_ (by omega)) (fun c1 => ?_)
      refine zV_iload_n 2 dX4_longestOf_10 rfl rfl ?_
      refine zV_aload_n 0 dX4_longestOf_11 rfl rfl (Or.inr ⟨_, rfl⟩) ?_
      refine zV_iload_n 1 dX4_longestOf_12 rfl rfl ?_
      refine zV_iload_n 3 dX4_longestOf_13 rfl rfl ?_
      refine zc_V (y' := zX4_longestAt) (as := [.int (jI ((p : Int))), .int (jI (((d : Nat) : Int)))]) (rest := [.int (jI (((a : Nat) : Int)))]) (ci := 3) (q := (RX4, TX4, 27)) bX4_longestAt dX4_longestOf_14 q2210 q2212 qs84 (md_k hM) rfl (c_X4_longestAt hM p (d) (by omega) (by omega)) rfl rfl (by decide) (Nat.le_of_ble_eq_true rfl) (by decide) (zk_J1 ?_)
      refine zV.eq (show (gI h (o + 6) (33 * p + d) : Int) = ((lg P p d : Nat) : Int) from hL p _ (by omega) (by omega) (by omega)) ?_
      have hl := hlg d
      refine zc_S (y' := zX4_larger) (as := [.int (jI (((a : Nat) : Int))), .int (jI (((lg P p d : Nat) : Int)))]) (rest := []) bX4_larger dX4_longestOf_17 q2169 q2170 (c_X4_larger _ _ ⟨by omega, by omega⟩ ⟨by omega, by omega⟩) rfl rfl (by decide) (Nat.le_of_ble_eq_true rfl) (zk_J1 ?_)
      refine zV_istore_n (lv' := [(0, .ref o), (1, .int (jI ((p : Int)))), (2, .int (jI (max ((a : Nat) : Int) ((lg P p d : Nat) : Int)))), (3, .int (jI (((d : Nat) : Int))))]) 2 dX4_longestOf_20 rfl (by decide) rfl rfl ?_
      refine zV_jinc (lv' := [(0, .ref o), (1, .int (jI ((p : Int)))), (2, .int (jI (max ((a : Nat) : Int) ((lg P p d : Nat) : Int)))), (3, .int (jI (((d : Nat) : Int) + 1)))]) dX4_longestOf_21 rfl (by decide) rfl rfl ?_
      refine zV_goto 4 dX4_longestOf_24 rfl ?_
      rw [show (max ((a : Nat) : Int) ((lg P p d : Nat) : Int) : Int) = ((max a (lg P p d) : Nat) : Int) from by omega]
      rw [show (((d : Nat) : Int) + 1 : Int) = ((d + 1 : Nat) : Int) from by omega]
      exact ih (d + 1) _ (by omega) (by omega) (by omega)
  exact key 32 1 0 (by omega) (by omega) (by omega)
theorem loN_le {P : pRow} (hw : pWf P) (p : Nat) : loN P p ≤ 12 := by
  unfold loN
  refine fU_ind (fun _ x => x ≤ 12) _ _ _ (by decide) (fun d x _ _ h => ?_)
  have := lg_le P p d
  have := hw.2.2.2.2.2.2.2.2.2.1
  omega
theorem c_X4_nearestOf (hM : MdL h o) (hP : gI h (o + 1) = P) (hw : pWf P) (hL : LC P (gI h (o + 6))) (p : Nat) (hp : (p : Int) < P 0) : zM G zX4_nearestOf 2 [.ref o, .int (jI (p : Int))] h (zJ h (some (.int (jI ((neN P p : Nat) : Int))))) := by
  obtain ⟨w0, w0b, w1, w1b, w2, w2b, w3, w3b, w4, w4b, w5, w5b, wp, wl, wn⟩ := id hw
  have hlg : ∀ d, lg P p d ≤ 12 := fun d => by have := lg_le P p d; omega
  refine zM.ofV (lv := [(0, .ref o), (1, .int (jI ((p : Int))))]) (by decide +kernel) (Nat.le_of_ble_eq_true rfl) rfl ?_
  refine zV_aload_n 0 dX4_nearestOf_0 rfl rfl (Or.inr ⟨_, rfl⟩) ?_
  refine zV_iload_n 1 dX4_nearestOf_1 rfl rfl ?_
  have hlo := loN_le hw p
  refine zc_V (y' := zX4_longestOf) (as := [.int (jI ((p : Int)))]) (rest := []) (ci := 3) (q := (RX4, TX4, 27)) bX4_longestOf dX4_nearestOf_2 q2206 q2208 qs83 (md_k hM) rfl (c_X4_longestOf hM hP hw hL p hp) rfl rfl (by decide) (Nat.le_of_ble_eq_true rfl) (by decide) (zk_J1 ?_)
  have hne : neN P p = if loN P p = 0 then 0 else fdD P p (loN P p) 32 1 := rfl
  generalize loN P p = m at hlo hne ⊢
  refine zV_istore_n (lv' := [(0, .ref o), (1, .int (jI ((p : Int)))), (2, .int (jI (((m : Nat) : Int))))]) 2 dX4_nearestOf_5 rfl (by decide) rfl rfl ?_
  refine zV_iconst (n := 1) dX4_nearestOf_6 ?_
  refine zV_istore_n (lv' := [(0, .ref o), (1, .int (jI ((p : Int)))), (2, .int (jI (((m : Nat) : Int)))), (3, .int (jI (1)))]) 3 dX4_nearestOf_7 rfl (by decide) rfl rfl ?_
  by_cases c0 : m = 0
  · refine zV_iload_n 3 dX4_nearestOf_8 rfl rfl ?_
    refine zV_jbipush dX4_nearestOf_9 (by decide) ?_
    refine zV_jcmp_ge 36 dX4_nearestOf_11 rfl ⟨by decide, by decide⟩ ⟨by decide, by decide⟩ (fun c_ => absurd c_ (by omega)) (fun c1 => ?_)
    refine zV_iload_n 2 dX4_nearestOf_14 rfl rfl ?_
    refine zV_jif_le 36 dX4_nearestOf_15 rfl ⟨by omega, by omega⟩ (fun _ => ?_) (fun c_ => absurd c_ (by omega))
    refine zV_iconst (n := 0) dX4_nearestOf_36 ?_
    exact zV_ireturn dX4_nearestOf_37 rfl rfl ⟨by rw [hne, if_pos c0]; rfl, rfl⟩
  · rw [hne, if_neg c0]
    have key : ∀ f d : Nat, d + f = 33 → 1 ≤ d → zV G zX4_nearestOf 2 8 [(0, .ref o), (1, .int (jI ((p : Int)))), (2, .int (jI (((m : Nat) : Int)))), (3, .int (jI (((d : Nat) : Int))))] [] h (zJ h (some (.int (jI ((fdD P p m f d : Nat) : Int))))) := by
      intro f
      induction f with
      | zero =>
        intro d h1 h2
        refine zV_iload_n 3 dX4_nearestOf_8 rfl rfl ?_
        refine zV_jbipush dX4_nearestOf_9 (by decide) ?_
        refine zV_jcmp_ge 36 dX4_nearestOf_11 rfl ⟨by omega, by omega⟩ ⟨by decide, by decide⟩ (fun c1 => ?_) (fun c_ => absurd c_ (by omega))
        refine zV_iconst (n := 0) dX4_nearestOf_36 ?_
        exact zV_ireturn dX4_nearestOf_37 rfl rfl ⟨rfl, rfl⟩
      | succ f ih =>
        intro d h1 h2
        refine zV_iload_n 3 dX4_nearestOf_8 rfl rfl ?_
        refine zV_jbipush dX4_nearestOf_9 (by decide) ?_
        refine zV_jcmp_ge 36 dX4_nearestOf_11 rfl ⟨by omega, by omega⟩ ⟨by decide, by decide⟩ (fun c_ => absurd c_ (by omega)) (fun c1 => ?_)
        refine zV_iload_n 2 dX4_nearestOf_14 rfl rfl ?_
        refine zV_jif_le 36 dX4_nearestOf_15 rfl ⟨by omega, by omega⟩ (fun c_ => absurd c_ (by omega)) (fun _ => ?_)
        refine zV_aload_n 0 dX4_nearestOf_18 rfl rfl (Or.inr ⟨_, rfl⟩) ?_
        refine zV_iload_n 1 dX4_nearestOf_19 rfl rfl ?_
        refine zV_iload_n 3 dX4_nearestOf_20 rfl rfl ?_
        refine zc_V (y' := zX4_longestAt) (as := [.int (jI ((p : Int))), .int (jI (((d : Nat) : Int)))]) (rest := []) (ci := 3) (q := (RX4, TX4, 27)) bX4_longestAt dX4_nearestOf_21 q2210 q2212 qs84 (md_k hM) rfl (c_X4_longestAt hM p (d) (by omega) (by omega)) rfl rfl (by decide) (Nat.le_of_ble_eq_true rfl) (by decide) (zk_J1 ?_)
        refine zV.eq (show (gI h (o + 6) (33 * p + d) : Int) = ((lg P p d : Nat) : Int) from hL p _ (by omega) (by omega) (by omega)) ?_
        have hl := hlg d
        refine zV_iload_n 2 dX4_nearestOf_24 rfl rfl ?_
        refine zV_jcmp_ne 30 dX4_nearestOf_25 rfl ⟨by omega, by omega⟩ ⟨by omega, by omega⟩ (fun c3 => ?_) (fun c3 => ?_)
        · refine zV_jinc (lv' := [(0, .ref o), (1, .int (jI ((p : Int)))), (2, .int (jI (((m : Nat) : Int)))), (3, .int (jI (((d : Nat) : Int) + 1)))]) dX4_nearestOf_30 rfl (by decide) rfl rfl ?_
          refine zV_goto 8 dX4_nearestOf_33 rfl ?_
          rw [show (((d : Nat) : Int) + 1 : Int) = ((d + 1 : Nat) : Int) from by omega]
          rw [fdD, if_neg (by omega)]
          exact ih (d + 1) (by omega) (by omega)
        · refine zV_iload_n 3 dX4_nearestOf_28 rfl rfl ?_
          exact zV_ireturn dX4_nearestOf_29 rfl rfl ⟨by rw [fdD, if_pos (by omega)], rfl⟩
    exact key 32 1 (by omega) (by omega)
theorem c_X4_bitsOf (v : Nat) (hv : v < 128) : zM G zX4_bitsOf 0 [.int (jI (v : Int))] h (zJ h (some (.int (jI ((bt v : Nat) : Int))))) := by
  refine zM.ofV (lv := [(0, .int (jI ((v : Int))))]) (by decide +kernel) (Nat.le_of_ble_eq_true rfl) rfl ?_
  refine zV_iconst (n := 0) dX4_bitsOf_0 ?_
  refine zV_istore_n (lv' := [(0, .int (jI ((v : Int)))), (1, .int (jI (0)))]) 1 dX4_bitsOf_1 rfl (by decide) rfl rfl ?_
  refine zV_iload_n 0 dX4_bitsOf_2 rfl rfl ?_
  refine zV_istore_n (lv' := [(0, .int (jI ((v : Int)))), (1, .int (jI (0))), (2, .int (jI ((v : Int))))]) 2 dX4_bitsOf_3 rfl (by decide) rfl rfl ?_
  have key : ∀ f n l : Nat, l < 2 ^ f → f ≤ 7 → zV G zX4_bitsOf 0 4 [(0, .int (jI ((v : Int)))), (1, .int (jI (((n : Nat) : Int)))), (2, .int (jI (((l : Nat) : Int))))] [] h (zJ h (some (.int (jI ((n + btF f l : Nat) : Int))))) := by
    intro f
    induction f with
    | zero =>
      intro n l h1 h2
      refine zV_iload_n 2 dX4_bitsOf_4 rfl rfl ?_
      refine zV_jif_le 19 dX4_bitsOf_5 rfl ⟨by omega, by omega⟩ (fun _ => ?_) (fun c_ => absurd c_ (by omega))
      refine zV_iload_n 1 dX4_bitsOf_19 rfl rfl ?_
      exact zV_ireturn dX4_bitsOf_20 rfl rfl ⟨rfl, rfl⟩
    | succ f ih =>
      intro n l h1 h2
      have hp2 : 2 ^ (f + 1) ≤ 2 ^ 7 := Nat.pow_le_pow_right (by decide) h2
      refine zV_iload_n 2 dX4_bitsOf_4 rfl rfl ?_
      refine zV_jif_le 19 dX4_bitsOf_5 rfl ⟨by omega, by omega⟩ (fun c1 => ?_) (fun c1 => ?_)
      · refine zV_iload_n 1 dX4_bitsOf_19 rfl rfl ?_
        exact zV_ireturn dX4_bitsOf_20 rfl rfl ⟨by rw [btF, if_pos (by omega)]; rfl, rfl⟩
      · refine zV_iload_n 1 dX4_bitsOf_8 rfl rfl ?_
        refine zV_iconst (n := 1) dX4_bitsOf_9 ?_
        refine zV_jadd dX4_bitsOf_10 ?_
        refine zV_istore_n (lv' := [(0, .int (jI ((v : Int)))), (1, .int (jI (((n : Nat) : Int) + 1))), (2, .int (jI (((l : Nat) : Int))))]) 1 dX4_bitsOf_11 rfl (by decide) rfl rfl ?_
        refine zV_iload_n 2 dX4_bitsOf_12 rfl rfl ?_
        refine zV_iconst (n := 2) dX4_bitsOf_13 ?_
        refine zV_jdiv dX4_bitsOf_14 (by omega) ⟨by omega, by omega⟩ (by omega) ⟨by decide, by decide⟩ ?_
        refine zV_istore_n (lv' := [(0, .int (jI ((v : Int)))), (1, .int (jI (((n : Nat) : Int) + 1))), (2, .int (jI (((l : Nat) : Int) / 2)))]) 2 dX4_bitsOf_15 rfl (by decide) rfl rfl ?_
        refine zV_goto 4 dX4_bitsOf_16 rfl ?_
        rw [show (((n : Nat) : Int) + 1 : Int) = ((n + 1 : Nat) : Int) from by omega]
        rw [show (((l : Nat) : Int) / 2 : Int) = ((l / 2 : Nat) : Int) from by omega]
        rw [btF, if_neg (by omega), show n + (btF f (l / 2) + 1) = n + 1 + btF f (l / 2) by omega]
        exact ih (n + 1) (l / 2) (by rw [Nat.pow_succ] at h1; omega) (by omega)
  rw [show bt v = 0 + btF 7 v by unfold bt; omega]
  exact key 7 0 v (by omega) (by omega)
theorem c_X4_copyCost (hM : MdL h o) (hP : gI h (o + 1) = P) (n d l : Nat) (hn : n < 128) (hd : d < 128) (hl : l < 128) : zM G zX4_copyCost 1 [.ref o, .int (jI (n : Int)), .int (jI (d : Int)), .int (jI (l : Int))] h (zJ h (some (.int (jI (cC P n d l))))) := by
  refine zM.ofV (lv := [(0, .ref o), (1, .int (jI ((n : Int)))), (2, .int (jI ((d : Int)))), (3, .int (jI ((l : Int))))]) (by decide +kernel) (Nat.le_of_ble_eq_true rfl) rfl ?_
  refine zV_iload_n 2 dX4_copyCost_0 rfl rfl ?_
  refine zV_iload_n 3 dX4_copyCost_1 rfl rfl ?_
  refine zV_jcmp_ne 13 dX4_copyCost_2 rfl ⟨by omega, by omega⟩ ⟨by omega, by omega⟩ (fun c1 => ?_) (fun c1 => ?_)
  · refine zV_aload_n 0 dX4_copyCost_13 rfl rfl (Or.inr ⟨_, rfl⟩) ?_
    refine zV_iconst (n := 1) dX4_copyCost_14 ?_
    refine zc_V (y' := zX4_cost) (as := [.int (jI (1))]) (rest := []) (ci := 3) (q := (RX4, TX4, 27)) bX4_cost dX4_copyCost_15 q2248 q2250 qs89 (md_k hM) rfl (c_X4_cost hM hP 1 (by omega)) rfl rfl (by decide) (Nat.le_of_ble_eq_true rfl) (by decide) (zk_J1 ?_)
    refine zV.eq (show (P (1 + 6) : Int) = P 7 from rfl) ?_
    refine zV_aload_n 0 dX4_copyCost_18 rfl rfl (Or.inr ⟨_, rfl⟩) ?_
    refine zV_iconst (n := 2) dX4_copyCost_19 ?_
    refine zc_V (y' := zX4_cost) (as := [.int (jI (2))]) (rest := [.int (jI (P 7))]) (ci := 3) (q := (RX4, TX4, 27)) bX4_cost dX4_copyCost_20 q2248 q2250 qs89 (md_k hM) rfl (c_X4_cost hM hP 2 (by omega)) rfl rfl (by decide) (Nat.le_of_ble_eq_true rfl) (by decide) (zk_J1 ?_)
    refine zV.eq (show (P (2 + 6) : Int) = P 8 from rfl) ?_
    refine zV_iload_n 2 dX4_copyCost_23 rfl rfl ?_
    refine zc_S (y' := zX4_bitsOf) (as := [.int (jI ((d : Int)))]) (rest := [.int (jI (P 8)), .int (jI (P 7))]) bX4_bitsOf dX4_copyCost_24 q2303 q2304 (c_X4_bitsOf d (by omega)) rfl rfl (by decide) (Nat.le_of_ble_eq_true rfl) (zk_J1 ?_)
    refine zV_jmul dX4_copyCost_27 ?_
    refine zV_jadd dX4_copyCost_28 ?_
    refine zV_istore (lv' := [(0, .ref o), (1, .int (jI ((n : Int)))), (2, .int (jI ((d : Int)))), (3, .int (jI ((l : Int)))), (4, .int (jI ((P 7) + ((P 8) * ((bt d : Nat) : Int)))))]) dX4_copyCost_29 (by decide) rfl rfl ?_
    refine zV_aload_n 0 dX4_copyCost_31 rfl rfl (Or.inr ⟨_, rfl⟩) ?_
    refine zV_iconst (n := 3) dX4_copyCost_32 ?_
    refine zc_V (y' := zX4_cost) (as := [.int (jI (3))]) (rest := []) (ci := 3) (q := (RX4, TX4, 27)) bX4_cost dX4_copyCost_33 q2248 q2250 qs89 (md_k hM) rfl (c_X4_cost hM hP 3 (by omega)) rfl rfl (by decide) (Nat.le_of_ble_eq_true rfl) (by decide) (zk_J1 ?_)
    refine zV.eq (show (P (3 + 6) : Int) = P 9 from rfl) ?_
    refine zV_iload_n 1 dX4_copyCost_36 rfl rfl ?_
    refine zc_S (y' := zX4_bitsOf) (as := [.int (jI ((n : Int)))]) (rest := [.int (jI (P 9))]) bX4_bitsOf dX4_copyCost_37 q2303 q2304 (c_X4_bitsOf n (by omega)) rfl rfl (by decide) (Nat.le_of_ble_eq_true rfl) (zk_J1 ?_)
    refine zV_jmul dX4_copyCost_40 ?_
    refine zV_iload dX4_copyCost_41 rfl ?_
    refine zV_jadd dX4_copyCost_43 ?_
    exact zV_ireturn dX4_copyCost_44 rfl rfl ⟨by rw [cC, if_neg (by omega)], rfl⟩
  · refine zV_aload_n 0 dX4_copyCost_5 rfl rfl (Or.inr ⟨_, rfl⟩) ?_
    refine zV_iconst (n := 4) dX4_copyCost_6 ?_
    refine zc_V (y' := zX4_cost) (as := [.int (jI (4))]) (rest := []) (ci := 3) (q := (RX4, TX4, 27)) bX4_cost dX4_copyCost_7 q2248 q2250 qs89 (md_k hM) rfl (c_X4_cost hM hP 4 (by omega)) rfl rfl (by decide) (Nat.le_of_ble_eq_true rfl) (by decide) (zk_J1 ?_)
    refine zV.eq (show (P (4 + 6) : Int) = P 10 from rfl) ?_
    refine zV_goto 29 dX4_copyCost_10 rfl ?_
    refine zV_istore (lv' := [(0, .ref o), (1, .int (jI ((n : Int)))), (2, .int (jI ((d : Int)))), (3, .int (jI ((l : Int)))), (4, .int (jI (P 10)))]) dX4_copyCost_29 (by decide) rfl rfl ?_
    refine zV_aload_n 0 dX4_copyCost_31 rfl rfl (Or.inr ⟨_, rfl⟩) ?_
    refine zV_iconst (n := 3) dX4_copyCost_32 ?_
    refine zc_V (y' := zX4_cost) (as := [.int (jI (3))]) (rest := []) (ci := 3) (q := (RX4, TX4, 27)) bX4_cost dX4_copyCost_33 q2248 q2250 qs89 (md_k hM) rfl (c_X4_cost hM hP 3 (by omega)) rfl rfl (by decide) (Nat.le_of_ble_eq_true rfl) (by decide) (zk_J1 ?_)
    refine zV.eq (show (P (3 + 6) : Int) = P 9 from rfl) ?_
    refine zV_iload_n 1 dX4_copyCost_36 rfl rfl ?_
    refine zc_S (y' := zX4_bitsOf) (as := [.int (jI ((n : Int)))]) (rest := [.int (jI (P 9))]) bX4_bitsOf dX4_copyCost_37 q2303 q2304 (c_X4_bitsOf n (by omega)) rfl rfl (by decide) (Nat.le_of_ble_eq_true rfl) (zk_J1 ?_)
    refine zV_jmul dX4_copyCost_40 ?_
    refine zV_iload dX4_copyCost_41 rfl ?_
    refine zV_jadd dX4_copyCost_43 ?_
    exact zV_ireturn dX4_copyCost_44 rfl rfl ⟨by rw [cC, if_pos (by omega)], rfl⟩
theorem c_X4_literalCost (hM : MdL h o) (hP : gI h (o + 1) = P) (hw : pWf P) (p r : Nat) (hp : (p : Int) < P 0) (hr : r < 2) : zM G zX4_literalCost 1 [.ref o, .int (jI (p : Int)), .int (jI (r : Int))] h (zJ h (some (.int (jI (lC P p r))))) := by
  obtain ⟨w0, w0b, w1, w1b, w2, w2b, w3, w3b, w4, w4b, w5, w5b, wp, wl, wn⟩ := id hw
  have hlp := wl p hp
  refine zM.ofV (lv := [(0, .ref o), (1, .int (jI ((p : Int)))), (2, .int (jI ((r : Int))))]) (by decide +kernel) (Nat.le_of_ble_eq_true rfl) rfl ?_
  refine zV_aload_n 0 dX4_literalCost_0 rfl rfl (Or.inr ⟨_, rfl⟩) ?_
  refine zV_iconst (n := 5) dX4_literalCost_1 ?_
  refine zV_aload_n 0 dX4_literalCost_2 rfl rfl (Or.inr ⟨_, rfl⟩) ?_
  refine zV_iload_n 1 dX4_literalCost_3 rfl rfl ?_
  refine zc_V (y' := zX4_letter) (as := [.int (jI ((p : Int)))]) (rest := [.int (jI (5)), .ref o]) (ci := 3) (q := (RX4, TX4, 27)) bX4_letter dX4_literalCost_4 q2176 q2178 qs77 (md_k hM) rfl (c_X4_letter hM hP (p) (by omega)) rfl rfl (by decide) (Nat.le_of_ble_eq_true rfl) (by decide) (zk_J1 ?_)
  refine zV_jadd dX4_literalCost_7 ?_
  refine zV.eq (show (5 + (P (p + 43)) : Int) = ((5 + (P (p + 43)).toNat : Nat) : Int) from by omega) ?_
  refine zc_V (y' := zX4_cost) (as := [.int (jI (((5 + (P (p + 43)).toNat : Nat) : Int)))]) (rest := []) (ci := 3) (q := (RX4, TX4, 27)) bX4_cost dX4_literalCost_8 q2248 q2250 qs89 (md_k hM) rfl (c_X4_cost hM hP (5 + (P (p + 43)).toNat) (by omega)) rfl rfl (by decide) (Nat.le_of_ble_eq_true rfl) (by decide) (zk_J1 ?_)
  refine zV_iload_n 2 dX4_literalCost_11 rfl rfl ?_
  refine zV_jif_eq 19 dX4_literalCost_12 rfl ⟨by omega, by omega⟩ (fun c1 => ?_) (fun c1 => ?_)
  · refine zV_aload_n 0 dX4_literalCost_19 rfl rfl (Or.inr ⟨_, rfl⟩) ?_
    refine zV_iconst (n := 0) dX4_literalCost_20 ?_
    refine zc_V (y' := zX4_cost) (as := [.int (jI (0))]) (rest := [.int (jI (P (5 + (P (p + 43)).toNat + 6)))]) (ci := 3) (q := (RX4, TX4, 27)) bX4_cost dX4_literalCost_21 q2248 q2250 qs89 (md_k hM) rfl (c_X4_cost hM hP 0 (by omega)) rfl rfl (by decide) (Nat.le_of_ble_eq_true rfl) (by decide) (zk_J1 ?_)
    refine zV.eq (show (P (0 + 6) : Int) = P 6 from rfl) ?_
    refine zV_jadd dX4_literalCost_24 ?_
    exact zV_ireturn dX4_literalCost_25 rfl rfl ⟨by rw [lC, if_pos (by omega)], rfl⟩
  · refine zV_iconst (n := 0) dX4_literalCost_15 ?_
    refine zV_goto 24 dX4_literalCost_16 rfl ?_
    refine zV_jadd dX4_literalCost_24 ?_
    exact zV_ireturn dX4_literalCost_25 rfl rfl ⟨by rw [lC, if_neg (by omega)], rfl⟩
theorem c_X4_bitN (r : Nat) (hr : r < 2) : zM G zX4_bit 0 [.int (jI (r : Int))] h (zJ h (some (.int (jI (r : Int))))) := by
  rcases (show r = 0 ∨ r = 1 by omega) with rfl | rfl
  · exact c_X4_bit False
  · exact c_X4_bit True
theorem c_X4_state (p l r : Nat) (hr : r < 2) : zM G zX4_state 1 [.int (jI (p : Int)), .int (jI (l : Int)), .int (jI (r : Int))] h (zJ h (some (.int (jI ((66 * p + 2 * l + r : Nat) : Int))))) := by
  refine zM.ofV (lv := [(0, .int (jI ((p : Int)))), (1, .int (jI ((l : Int)))), (2, .int (jI ((r : Int))))]) (by decide +kernel) (Nat.le_of_ble_eq_true rfl) rfl ?_
  refine zV_iconst (n := 2) dX4_state_0 ?_
  refine zV_jbipush dX4_state_1 (by decide) ?_
  refine zV_iload_n 0 dX4_state_3 rfl rfl ?_
  refine zV_jmul dX4_state_4 ?_
  refine zV_iload_n 1 dX4_state_5 rfl rfl ?_
  refine zV_jadd dX4_state_6 ?_
  refine zV_jmul dX4_state_7 ?_
  refine zV_iload_n 2 dX4_state_8 rfl rfl ?_
  refine zc_S (y' := zX4_bit) (as := [.int (jI ((r : Int)))]) (rest := [.int (jI (2 * ((33 * (p : Int)) + (l : Int))))]) bX4_bit dX4_state_9 q2180 q2181 (c_X4_bitN r hr) rfl rfl (by decide) (Nat.le_of_ble_eq_true rfl) (zk_J1 ?_)
  refine zV_jadd dX4_state_12 ?_
  refine zV.eq (show ((2 * ((33 * (p : Int)) + (l : Int))) + (r : Int) : Int) = ((66 * p + 2 * l + r : Nat) : Int) from by omega) ?_
  exact zV_ireturn dX4_state_13 rfl rfl ⟨rfl, rfl⟩
end M5
