/-! ===== THE MODEL, 4: why, copies laid (printed by a program of gen/) ===== -/
set_option maxRecDepth 100000
section M4
variable {G : zG} {h : zH} {o : Nat} {P : pRow}
theorem c_X4_reason (hM : MdL h o) (hP : gI h (o + 1) = P) (hw : pWf P) (p n d : Nat) (hp : (p : Int) < P 0) (hn : n ≤ 64) (hd1 : 1 ≤ d) (hd : d ≤ 64) : zM G zX4_reason 3 [.ref o, .int (jI (p : Int)), .int (jI (n : Int)), .int (jI (d : Int))] h (zOkI (fun z h1 => z = whyP P p n d ∧ h1 = h)) := by
  obtain ⟨w0, w0b, w1, w1b, w2, w2b, w3, w3b, w4, w4b, w5, w5b, wp, wl, wn⟩ := id hw
  refine zM.ofV (lv := [(0, .ref o), (1, .int (jI ((p : Int)))), (2, .int (jI ((n : Int)))), (3, .int (jI ((d : Int))))]) (by decide +kernel) (Nat.le_of_ble_eq_true rfl) rfl ?_
  refine zV_iload_n 2 dX4_reason_0 rfl rfl ?_
  refine zV_aload_n 0 dX4_reason_1 rfl rfl (Or.inr ⟨_, rfl⟩) ?_
  refine zV_iconst (n := 2) dX4_reason_2 ?_
  refine zc_V (y' := zX4_set) (as := [.int (jI (2))]) (rest := [.int (jI ((n : Int)))]) (ci := 3) (q := (RX4, TX4, 27)) bX4_set dX4_reason_3 q2157 q2159 qs73 (md_k hM) rfl (c_X4_set hM hP 2 (by omega)) rfl rfl (by decide) (Nat.le_of_ble_eq_true rfl) (by decide) (zk_J1 ?_)
  refine zV.eq (show (P (2 + 1) : Int) = P 3 from rfl) ?_
  refine zV_aload_n 0 dX4_reason_6 rfl rfl (Or.inr ⟨_, rfl⟩) ?_
  refine zV_iconst (n := 3) dX4_reason_7 ?_
  refine zc_V (y' := zX4_set) (as := [.int (jI (3))]) (rest := [.int (jI (P 3)), .int (jI ((n : Int)))]) (ci := 3) (q := (RX4, TX4, 27)) bX4_set dX4_reason_8 q2157 q2159 qs73 (md_k hM) rfl (c_X4_set hM hP 3 (by omega)) rfl rfl (by decide) (Nat.le_of_ble_eq_true rfl) (by decide) (zk_J1 ?_)
  refine zV.eq (show (P (3 + 1) : Int) = P 4 from rfl) ?_
  refine zc_S (y' := zX4_isIn) (as := [.int (jI ((n : Int))), .int (jI (P 3)), .int (jI (P 4))]) (rest := []) bX4_isIn dX4_reason_11 q2012 q2013 (c_X4_isIn (n : Int) (P 3) (P 4) ⟨by omega, by omega⟩ (by rw [← hP]; exact jr_toInt _) (by rw [← hP]; exact jr_toInt _)) rfl rfl (by decide) (Nat.le_of_ble_eq_true rfl) (zk_J1 ?_)
  by_cases c1 : P 3 ≤ (n : Int) ∧ (n : Int) ≤ P 4
  · refine zV.eq (show (bI (P 3 ≤ (n : Int) ∧ (n : Int) ≤ P 4) : Int) = 1 from bI_t c1) ?_
    refine zV_jif_ne 19 dX4_reason_14 rfl ⟨by decide, by decide⟩ (fun _ => ?_) (fun c_ => absurd c_ (by decide))
    refine zV_iload_n 3 dX4_reason_19 rfl rfl ?_
    refine zV_aload_n 0 dX4_reason_20 rfl rfl (Or.inr ⟨_, rfl⟩) ?_
    refine zV_iconst (n := 0) dX4_reason_21 ?_
    refine zc_V (y' := zX4_set) (as := [.int (jI (0))]) (rest := [.int (jI ((d : Int)))]) (ci := 3) (q := (RX4, TX4, 27)) bX4_set dX4_reason_22 q2157 q2159 qs73 (md_k hM) rfl (c_X4_set hM hP 0 (by omega)) rfl rfl (by decide) (Nat.le_of_ble_eq_true rfl) (by decide) (zk_J1 ?_)
    refine zV.eq (show (P (0 + 1) : Int) = P 1 from rfl) ?_
    refine zV_jcmp_le 30 dX4_reason_25 rfl ⟨by omega, by omega⟩ (by rw [← hP]; exact jr_toInt _) (fun c2 => ?_) (fun c2 => ?_)
    · refine zV_iload_n 3 dX4_reason_30 rfl rfl ?_
      refine zV_iload_n 1 dX4_reason_31 rfl rfl ?_
      refine zV_jcmp_le 37 dX4_reason_32 rfl ⟨by omega, by omega⟩ ⟨by omega, by omega⟩ (fun c3 => ?_) (fun c3 => ?_)
      · refine zV_iload_n 1 dX4_reason_37 rfl rfl ?_
        refine zV_iload_n 2 dX4_reason_38 rfl rfl ?_
        refine zV_jadd dX4_reason_39 ?_
        refine zV_aload_n 0 dX4_reason_40 rfl rfl (Or.inr ⟨_, rfl⟩) ?_
        refine zc_V (y' := zX4_many) (as := []) (rest := [.int (jI ((p : Int) + (n : Int)))]) (ci := 3) (q := (RX4, TX4, 27)) bX4_many dX4_reason_41 q2042 q2044 qs50 (md_k hM) rfl (c_X4_many hM hP) rfl rfl (by decide) (Nat.le_of_ble_eq_true rfl) (by decide) (zk_J1 ?_)
        refine zV_jcmp_le 49 dX4_reason_44 rfl ⟨by omega, by omega⟩ (by rw [← hP]; exact jr_toInt _) (fun c4 => ?_) (fun c4 => ?_)
        · refine zV_aload_n 0 dX4_reason_49 rfl rfl (Or.inr ⟨_, rfl⟩) ?_
          refine zV_iload_n 1 dX4_reason_50 rfl rfl ?_
          refine zV_iload_n 3 dX4_reason_51 rfl rfl ?_
          refine zc_V (y' := zX4_sameMany) (as := [.int (jI ((p : Int))), .int (jI ((d : Int)))]) (rest := []) (ci := 3) (q := (RX4, TX4, 27)) bX4_sameMany dX4_reason_52 q2202 q2204 qs82 (md_k hM) rfl (c_X4_sameMany hM hP hw p d (by omega) (by omega)) rfl rfl (by decide) (Nat.le_of_ble_eq_true rfl) (by decide) (zk_J1 ?_)
          refine zV_iload_n 2 dX4_reason_55 rfl rfl ?_
          refine zV_jcmp_ge 61 dX4_reason_56 rfl ⟨by omega, by have := sm_end (P := P) (p := p) (d := d) (by omega); omega⟩ ⟨by omega, by omega⟩ (fun c5 => ?_) (fun c5 => ?_)
          · refine zV_aload_n 0 dX4_reason_61 rfl rfl (Or.inr ⟨_, rfl⟩) ?_
            refine zV_iload_n 1 dX4_reason_62 rfl rfl ?_
            refine zV_iload_n 1 dX4_reason_63 rfl rfl ?_
            refine zV_iload_n 3 dX4_reason_64 rfl rfl ?_
            refine zV_jsub dX4_reason_65 ?_
            refine zV.eq (show ((p : Int) - (d : Int) : Int) = ((p - d : Nat) : Int) from by omega) ?_
            refine zc_V (y' := zX4_isCandidate) (as := [.int (jI ((p : Int))), .int (jI (((p - d : Nat) : Int)))]) (rest := []) (ci := 3) (q := (RX4, TX4, 27)) bX4_isCandidate dX4_reason_66 q2198 q2200 qs81 (md_k hM) rfl (c_X4_isCandidate hM hP hw p (p - d) (by omega) (by omega)) rfl rfl (by decide) (Nat.le_of_ble_eq_true rfl) (by decide) (zk_J1 ?_)
            by_cases c6 : isCd P p (p - d)
            · refine zV.eq (show (bI (isCd P p (p - d)) : Int) = 1 from bI_t c6) ?_
              refine zV_jif_ne 75 dX4_reason_69 rfl ⟨by decide, by decide⟩ (fun _ => ?_) (fun c_ => absurd c_ (by decide))
              refine zV_aload_n 0 dX4_reason_75 rfl rfl (Or.inr ⟨_, rfl⟩) ?_
              refine zV_iload_n 1 dX4_reason_76 rfl rfl ?_
              refine zV_iload_n 2 dX4_reason_77 rfl rfl ?_
              refine zc_V (y' := zX4_isPinnedFrom) (as := [.int (jI ((p : Int))), .int (jI ((n : Int)))]) (rest := []) (ci := 3) (q := (RX4, TX4, 27)) bX4_isPinnedFrom dX4_reason_78 q2287 q2289 qs95 (md_k hM) rfl (c_X4_isPinnedFrom hM hP p n (by omega)) rfl rfl (by decide) (Nat.le_of_ble_eq_true rfl) (by decide) (zk_I (fun z h1 ⟨ez, eh⟩ _ => ?_))
              subst ez; subst eh
              by_cases c7 : pinB P p n
              · rw [show @bI (pinB P p n) (Classical.propDecidable _) = 1 from @bI_t _ (Classical.propDecidable _) c7]
                refine zV_jif_eq 89 dX4_reason_81 rfl ⟨by decide, by decide⟩ (fun c_ => absurd c_ (by decide)) (fun _ => ?_)
                refine zV_jbipush dX4_reason_84 (by decide) ?_
                refine zV_goto 90 dX4_reason_86 rfl ?_
                exact zV_ireturn dX4_reason_90 rfl rfl ⟨_, rfl, by rw [whyP, if_neg (fun z => z c1), if_neg (by omega), if_neg (by omega), if_neg (by omega), if_neg (by omega), if_neg (fun z => z c6), if_pos c7], rfl⟩
              · rw [show @bI (pinB P p n) (Classical.propDecidable _) = 0 from @bI_f _ (Classical.propDecidable _) c7]
                refine zV_jif_eq 89 dX4_reason_81 rfl ⟨by decide, by decide⟩ (fun _ => ?_) (fun c_ => absurd c_ (by decide))
                refine zV_iconst (n := 0) dX4_reason_89 ?_
                exact zV_ireturn dX4_reason_90 rfl rfl ⟨_, rfl, by rw [whyP, if_neg (fun z => z c1), if_neg (by omega), if_neg (by omega), if_neg (by omega), if_neg (by omega), if_neg (fun z => z c6), if_neg c7], rfl⟩
            · refine zV.eq (show (bI (isCd P p (p - d)) : Int) = 0 from bI_f c6) ?_
              refine zV_jif_ne 75 dX4_reason_69 rfl ⟨by decide, by decide⟩ (fun c_ => absurd c_ (by decide)) (fun _ => ?_)
              refine zV_jbipush dX4_reason_72 (by decide) ?_
              exact zV_ireturn dX4_reason_74 rfl rfl ⟨_, rfl, by rw [whyP, if_neg (fun z => z c1), if_neg (by omega), if_neg (by omega), if_neg (by omega), if_neg (by omega), if_pos c6], rfl⟩
          · refine zV_iconst (n := 5) dX4_reason_59 ?_
            exact zV_ireturn dX4_reason_60 rfl rfl ⟨_, rfl, by rw [whyP, if_neg (fun z => z c1), if_neg (by omega), if_neg (by omega), if_neg (by omega), if_pos (by omega)], rfl⟩
        · refine zV_iconst (n := 4) dX4_reason_47 ?_
          exact zV_ireturn dX4_reason_48 rfl rfl ⟨_, rfl, by rw [whyP, if_neg (fun z => z c1), if_neg (by omega), if_neg (by omega), if_pos (by omega)], rfl⟩
      · refine zV_iconst (n := 3) dX4_reason_35 ?_
        exact zV_ireturn dX4_reason_36 rfl rfl ⟨_, rfl, by rw [whyP, if_neg (fun z => z c1), if_neg (by omega), if_pos (by omega)], rfl⟩
    · refine zV_iconst (n := 2) dX4_reason_28 ?_
      exact zV_ireturn dX4_reason_29 rfl rfl ⟨_, rfl, by rw [whyP, if_neg (fun z => z c1), if_pos c2], rfl⟩
  · refine zV.eq (show (bI (P 3 ≤ (n : Int) ∧ (n : Int) ≤ P 4) : Int) = 0 from bI_f c1) ?_
    refine zV_jif_ne 19 dX4_reason_14 rfl ⟨by decide, by decide⟩ (fun c_ => absurd c_ (by decide)) (fun _ => ?_)
    refine zV_iconst (n := 1) dX4_reason_17 ?_
    exact zV_ireturn dX4_reason_18 rfl rfl ⟨_, rfl, by rw [whyP, if_pos c1], rfl⟩
theorem c_X4_longestAt (hM : MdL h o) (p d : Nat) (hp : p < 64) (hd : d < 33) : zM G zX4_longestAt 0 [.ref o, .int (jI (p : Int)), .int (jI (d : Int))] h (zJ h (some (.int (jI (gI h (o + 6) (33 * p + d)))))) := by
  refine zM.ofV (lv := [(0, .ref o), (1, .int (jI ((p : Int)))), (2, .int (jI ((d : Int))))]) (by decide +kernel) (Nat.le_of_ble_eq_true rfl) rfl ?_
  refine zV_aload_n 0 dX4_longestAt_0 rfl rfl (Or.inr ⟨_, rfl⟩) ?_
  refine zV_getf (v := .ref (o + 6)) (ci := 3) (q := (RX4, TX4, 27)) 8 dX4_longestAt_1 q1925 (md_k hM) rfl (by decide) (congrArg va_rf (md_r_longest hM)) (by decide) ?_
  refine zV_jbipush dX4_longestAt_4 (by decide) ?_
  refine zV_iload_n 1 dX4_longestAt_6 rfl rfl ?_
  refine zV_jmul dX4_longestAt_7 ?_
  refine zV_iload_n 2 dX4_longestAt_8 rfl rfl ?_
  refine zV_jadd dX4_longestAt_9 ?_
  refine zV_tiald (33 * p + d) 2112 dX4_longestAt_10 (md_k_longest hM) (md_z_longest hM) (by omega) (by omega) (by omega) ?_
  exact zV_ireturn dX4_longestAt_11 rfl rfl ⟨rfl, rfl⟩
/-- what worksLongest answers: the window is not looked at -/
def wkL (P : pRow) (p d : Nat) : Nat := if d ≤ p ∧ isCd P p (p - d) then lgB P p d else 0
theorem c_X4_worksLongest (hM : MdL h o) (hP : gI h (o + 1) = P) (hw : pWf P) (p d : Nat) (hp : (p : Int) < P 0) (hd1 : 1 ≤ d) (hd : d < 33) : zM G zX4_worksLongest 3 [.ref o, .int (jI (p : Int)), .int (jI (d : Int))] h (zJ h (some (.int (jI ((wkL P p d : Nat) : Int))))) := by
  obtain ⟨w0, w0b, w1, w1b, w2, w2b, w3, w3b, w4, w4b, w5, w5b, wp, wl, wn⟩ := id hw
  refine zM.ofV (lv := [(0, .ref o), (1, .int (jI ((p : Int)))), (2, .int (jI ((d : Int))))]) (by decide +kernel) (Nat.le_of_ble_eq_true rfl) rfl ?_
  refine zV_iload_n 2 dX4_worksLongest_0 rfl rfl ?_
  refine zV_iload_n 1 dX4_worksLongest_1 rfl rfl ?_
  refine zV_jcmp_gt 16 dX4_worksLongest_2 rfl ⟨by omega, by omega⟩ ⟨by omega, by omega⟩ (fun c1 => ?_) (fun c1 => ?_)
  · refine zV_iconst (n := 0) dX4_worksLongest_16 ?_
    exact zV_ireturn dX4_worksLongest_17 rfl rfl ⟨by rw [wkL, if_neg (fun z => by omega)]; rfl, rfl⟩
  · refine zV_aload_n 0 dX4_worksLongest_5 rfl rfl (Or.inr ⟨_, rfl⟩) ?_
    refine zV_iload_n 1 dX4_worksLongest_6 rfl rfl ?_
    refine zV_iload_n 1 dX4_worksLongest_7 rfl rfl ?_
    refine zV_iload_n 2 dX4_worksLongest_8 rfl rfl ?_
    refine zV_jsub dX4_worksLongest_9 ?_
    refine zV.eq (show ((p : Int) - (d : Int) : Int) = ((p - d : Nat) : Int) from by omega) ?_
    refine zc_V (y' := zX4_isCandidate) (as := [.int (jI ((p : Int))), .int (jI (((p - d : Nat) : Int)))]) (rest := []) (ci := 3) (q := (RX4, TX4, 27)) bX4_isCandidate dX4_worksLongest_10 q2198 q2200 qs81 (md_k hM) rfl (c_X4_isCandidate hM hP hw p (p - d) (by omega) (by omega)) rfl rfl (by decide) (Nat.le_of_ble_eq_true rfl) (by decide) (zk_J1 ?_)
    by_cases c6 : isCd P p (p - d)
    · refine zV.eq (show (bI (isCd P p (p - d)) : Int) = 1 from bI_t c6) ?_
      refine zV_jif_ne 18 dX4_worksLongest_13 rfl ⟨by decide, by decide⟩ (fun _ => ?_) (fun c_ => absurd c_ (by decide))
      refine zV_aload_n 0 dX4_worksLongest_18 rfl rfl (Or.inr ⟨_, rfl⟩) ?_
      refine zV_iconst (n := 3) dX4_worksLongest_19 ?_
      refine zc_V (y' := zX4_set) (as := [.int (jI (3))]) (rest := []) (ci := 3) (q := (RX4, TX4, 27)) bX4_set dX4_worksLongest_20 q2157 q2159 qs73 (md_k hM) rfl (c_X4_set hM hP 3 (by omega)) rfl rfl (by decide) (Nat.le_of_ble_eq_true rfl) (by decide) (zk_J1 ?_)
      refine zV.eq (show (P (3 + 1) : Int) = P 4 from rfl) ?_
      refine zV_aload_n 0 dX4_worksLongest_23 rfl rfl (Or.inr ⟨_, rfl⟩) ?_
      refine zV_iload_n 1 dX4_worksLongest_24 rfl rfl ?_
      refine zV_iload_n 2 dX4_worksLongest_25 rfl rfl ?_
      refine zc_V (y' := zX4_sameMany) (as := [.int (jI ((p : Int))), .int (jI ((d : Int)))]) (rest := [.int (jI (P 4))]) (ci := 3) (q := (RX4, TX4, 27)) bX4_sameMany dX4_worksLongest_26 q2202 q2204 qs82 (md_k hM) rfl (c_X4_sameMany hM hP hw p d (by omega) (by omega)) rfl rfl (by decide) (Nat.le_of_ble_eq_true rfl) (by decide) (zk_J1 ?_)
      have hse := sm_end (P := P) (p := p) (d := d) (by omega)
      refine zc_S (y' := zX4_lesser) (as := [.int (jI (P 4)), .int (jI (((sm P p d : Nat) : Int)))]) (rest := []) bX4_lesser dX4_worksLongest_29 q2183 q2184 (c_X4_lesser _ _ (by rw [← hP]; exact jr_toInt _) ⟨by omega, by omega⟩) rfl rfl (by decide) (Nat.le_of_ble_eq_true rfl) (zk_J1 ?_)
      refine zV.eq (show (min (P 4) ((sm P p d : Nat) : Int) : Int) = ((min (P 4).toNat (sm P p d) : Nat) : Int) from by omega) ?_
      have hme : min (P 4).toNat (sm P p d) ≤ 12 ∧ p + min (P 4).toNat (sm P p d) ≤ 64 := ⟨by omega, by omega⟩
      have hlB : lgB P p d = if (un P p (min (P 4).toNat (sm P p d)) : Int) < P 3 then 0 else un P p (min (P 4).toNat (sm P p d)) := rfl
      generalize min (P 4).toNat (sm P p d) = m at hme hlB ⊢
      refine zV_istore_n (lv' := [(0, .ref o), (1, .int (jI ((p : Int)))), (2, .int (jI ((d : Int)))), (3, .int (jI (((m : Nat) : Int))))]) 3 dX4_worksLongest_32 rfl (by decide) rfl rfl ?_
      refine zV_iconst (n := 0) dX4_worksLongest_33 ?_
      refine zV_istore (lv' := [(0, .ref o), (1, .int (jI ((p : Int)))), (2, .int (jI ((d : Int)))), (3, .int (jI (((m : Nat) : Int)))), (4, .int (jI (0)))]) dX4_worksLongest_34 (by decide) rfl rfl ?_
      have key : ∀ f n : Nat, n + f = 64 → n ≤ m → unF P p m f n = un P p m → zV G zX4_worksLongest 3 36 [(0, .ref o), (1, .int (jI ((p : Int)))), (2, .int (jI ((d : Int)))), (3, .int (jI (((m : Nat) : Int)))), (4, .int (jI ((n : Int))))] [] h (zJ h (some (.int (jI ((wkL P p d : Nat) : Int))))) := by
        intro f
        induction f with
        | zero =>
          intro n h1 h2 h3
          refine zV_iload dX4_worksLongest_36 rfl ?_
          refine zV_iload_n 3 dX4_worksLongest_38 rfl rfl ?_
          refine zV_jcmp_ge 62 dX4_worksLongest_39 rfl ⟨by omega, by omega⟩ ⟨by omega, by omega⟩ (fun c2 => ?_) (fun c_ => absurd c_ (by omega))
          have hu : un P p m = n := by rw [← h3, unF]
          refine zV_iload dX4_worksLongest_62 rfl ?_
          refine zV_aload_n 0 dX4_worksLongest_64 rfl rfl (Or.inr ⟨_, rfl⟩) ?_
          refine zV_iconst (n := 2) dX4_worksLongest_65 ?_
          refine zc_V (y' := zX4_set) (as := [.int (jI (2))]) (rest := [.int (jI ((n : Int)))]) (ci := 3) (q := (RX4, TX4, 27)) bX4_set dX4_worksLongest_66 q2157 q2159 qs73 (md_k hM) rfl (c_X4_set hM hP 2 (by omega)) rfl rfl (by decide) (Nat.le_of_ble_eq_true rfl) (by decide) (zk_J1 ?_)
          refine zV.eq (show (P (2 + 1) : Int) = P 3 from rfl) ?_
          refine zV_jcmp_ge 76 dX4_worksLongest_69 rfl ⟨by omega, by omega⟩ (by rw [← hP]; exact jr_toInt _) (fun c3 => ?_) (fun c3 => ?_)
          · refine zV_iload dX4_worksLongest_76 rfl ?_
            exact zV_ireturn dX4_worksLongest_78 rfl rfl ⟨by rw [wkL, if_pos ⟨by omega, c6⟩, hlB, hu, if_neg (by omega)], rfl⟩
          · refine zV_iconst (n := 0) dX4_worksLongest_72 ?_
            refine zV_goto 78 dX4_worksLongest_73 rfl ?_
            exact zV_ireturn dX4_worksLongest_78 rfl rfl ⟨by rw [wkL, if_pos ⟨by omega, c6⟩, hlB, hu, if_pos (by omega)]; rfl, rfl⟩
        | succ f ih =>
          intro n h1 h2 h3
          refine zV_iload dX4_worksLongest_36 rfl ?_
          refine zV_iload_n 3 dX4_worksLongest_38 rfl rfl ?_
          refine zV_jcmp_ge 62 dX4_worksLongest_39 rfl ⟨by omega, by omega⟩ ⟨by omega, by omega⟩ (fun c2 => ?_) (fun c2 => ?_)
          · have hu : un P p m = n := by rw [← h3, unF_s, if_neg (fun z => by have := z.1; omega)]
            refine zV_iload dX4_worksLongest_62 rfl ?_
            refine zV_aload_n 0 dX4_worksLongest_64 rfl rfl (Or.inr ⟨_, rfl⟩) ?_
            refine zV_iconst (n := 2) dX4_worksLongest_65 ?_
            refine zc_V (y' := zX4_set) (as := [.int (jI (2))]) (rest := [.int (jI ((n : Int)))]) (ci := 3) (q := (RX4, TX4, 27)) bX4_set dX4_worksLongest_66 q2157 q2159 qs73 (md_k hM) rfl (c_X4_set hM hP 2 (by omega)) rfl rfl (by decide) (Nat.le_of_ble_eq_true rfl) (by decide) (zk_J1 ?_)
            refine zV.eq (show (P (2 + 1) : Int) = P 3 from rfl) ?_
            refine zV_jcmp_ge 76 dX4_worksLongest_69 rfl ⟨by omega, by omega⟩ (by rw [← hP]; exact jr_toInt _) (fun c3 => ?_) (fun c3 => ?_)
            · refine zV_iload dX4_worksLongest_76 rfl ?_
              exact zV_ireturn dX4_worksLongest_78 rfl rfl ⟨by rw [wkL, if_pos ⟨by omega, c6⟩, hlB, hu, if_neg (by omega)], rfl⟩
            · refine zV_iconst (n := 0) dX4_worksLongest_72 ?_
              refine zV_goto 78 dX4_worksLongest_73 rfl ?_
              exact zV_ireturn dX4_worksLongest_78 rfl rfl ⟨by rw [wkL, if_pos ⟨by omega, c6⟩, hlB, hu, if_pos (by omega)]; rfl, rfl⟩
          · refine zV_aload_n 0 dX4_worksLongest_42 rfl rfl (Or.inr ⟨_, rfl⟩) ?_
            refine zV_iload_n 1 dX4_worksLongest_43 rfl rfl ?_
            refine zV_iload dX4_worksLongest_44 rfl ?_
            refine zV_jadd dX4_worksLongest_46 ?_
            refine zV.eq (show ((p : Int) + (n : Int) : Int) = ((p + n : Nat) : Int) from by omega) ?_
            refine zc_V (y' := zX4_isPinned) (as := [.int (jI (((p + n : Nat) : Int)))]) (rest := []) (ci := 3) (q := (RX4, TX4, 27)) bX4_isPinned dX4_worksLongest_47 q2097 q2099 qs63 (md_k hM) rfl (c_X4_isPinned hM hP (p + n) (by omega)) rfl rfl (by decide) (Nat.le_of_ble_eq_true rfl) (by decide) (zk_J1 ?_)
            by_cases cP : P (p + n + 107) = 1
            · refine zV.eq (show (bI (P (p + n + 107) = 1) : Int) = 1 from bI_t cP) ?_
              refine zV_jif_ne 62 dX4_worksLongest_50 rfl ⟨by decide, by decide⟩ (fun _ => ?_) (fun c_ => absurd c_ (by decide))
              have hu : un P p m = n := by rw [← h3, unF_s, if_neg (fun z => z.2 cP)]
              refine zV_iload dX4_worksLongest_62 rfl ?_
              refine zV_aload_n 0 dX4_worksLongest_64 rfl rfl (Or.inr ⟨_, rfl⟩) ?_
              refine zV_iconst (n := 2) dX4_worksLongest_65 ?_
              refine zc_V (y' := zX4_set) (as := [.int (jI (2))]) (rest := [.int (jI ((n : Int)))]) (ci := 3) (q := (RX4, TX4, 27)) bX4_set dX4_worksLongest_66 q2157 q2159 qs73 (md_k hM) rfl (c_X4_set hM hP 2 (by omega)) rfl rfl (by decide) (Nat.le_of_ble_eq_true rfl) (by decide) (zk_J1 ?_)
              refine zV.eq (show (P (2 + 1) : Int) = P 3 from rfl) ?_
              refine zV_jcmp_ge 76 dX4_worksLongest_69 rfl ⟨by omega, by omega⟩ (by rw [← hP]; exact jr_toInt _) (fun c3 => ?_) (fun c3 => ?_)
              · refine zV_iload dX4_worksLongest_76 rfl ?_
                exact zV_ireturn dX4_worksLongest_78 rfl rfl ⟨by rw [wkL, if_pos ⟨by omega, c6⟩, hlB, hu, if_neg (by omega)], rfl⟩
              · refine zV_iconst (n := 0) dX4_worksLongest_72 ?_
                refine zV_goto 78 dX4_worksLongest_73 rfl ?_
                exact zV_ireturn dX4_worksLongest_78 rfl rfl ⟨by rw [wkL, if_pos ⟨by omega, c6⟩, hlB, hu, if_pos (by omega)]; rfl, rfl⟩
            · refine zV.eq (show (bI (P (p + n + 107) = 1) : Int) = 0 from bI_f cP) ?_
              refine zV_jif_ne 62 dX4_worksLongest_50 rfl ⟨by decide, by decide⟩ (fun c_ => absurd c_ (by decide)) (fun _ => ?_)
              refine zV_iload dX4_worksLongest_53 rfl ?_
              refine zV_iconst (n := 1) dX4_worksLongest_55 ?_
              refine zV_jadd dX4_worksLongest_56 ?_
              refine zV_istore (lv' := [(0, .ref o), (1, .int (jI ((p : Int)))), (2, .int (jI ((d : Int)))), (3, .int (jI (((m : Nat) : Int)))), (4, .int (jI ((n : Int) + 1)))]) dX4_worksLongest_57 (by decide) rfl rfl ?_
              refine zV_goto 36 dX4_worksLongest_59 rfl ?_
              rw [show ((n : Int) + 1 : Int) = ((n + 1 : Nat) : Int) from by omega]
              exact ih (n + 1) (by omega) (by omega) (by rw [← h3, unF_s, if_pos ⟨by omega, cP⟩])
      exact key 64 0 (by omega) (by omega) rfl
    · refine zV.eq (show (bI (isCd P p (p - d)) : Int) = 0 from bI_f c6) ?_
      refine zV_jif_ne 18 dX4_worksLongest_13 rfl ⟨by decide, by decide⟩ (fun c_ => absurd c_ (by decide)) (fun _ => ?_)
      refine zV_iconst (n := 0) dX4_worksLongest_16 ?_
      exact zV_ireturn dX4_worksLongest_17 rfl rfl ⟨by rw [wkL, if_neg (fun z => c6 z.2)]; rfl, rfl⟩
/-- how far copies are laid: all places ahead of p, and of p the distances ahead of d -/
def LCt (P R : pRow) (p0 d0 : Nat) : Prop := ∀ p d : Nat, (p : Int) < P 0 → 1 ≤ d → d < 33 → (p < p0 ∨ p = p0 ∧ d < d0) → R (33 * p + d) = (lg P p d : Int)
theorem wkL_le (P : pRow) (p d : Nat) : (wkL P p d : Int) ≤ max 0 (P 4) := by
  unfold wkL
  split
  · have := lgB_le P p d
    omega
  · omega
theorem c_X4_laysCopies (hM : MdL h o) (hP : gI h (o + 1) = P) (hw : pWf P) : zM G zX4_laysCopies 4 [.ref o] h (zOkV (fun h1 => zIo [o + 6] h h1 ∧ LC P (gI h1 (o + 6)))) := by
  obtain ⟨w0, w0b, w1, w1b, w2, w2b, w3, w3b, w4, w4b, w5, w5b, wp, wl, wn⟩ := id hw
  refine zM.ofV (lv := [(0, .ref o)]) (by decide +kernel) (Nat.le_of_ble_eq_true rfl) rfl ?_
  refine zV_iconst (n := 0) dX4_laysCopies_0 ?_
  refine zV_istore_n (lv' := [(0, .ref o), (1, .int (jI (0)))]) 1 dX4_laysCopies_1 rfl (by decide) rfl rfl ?_
  have key : ∀ f p : Nat, ∀ g : zH, (p : Int) + f = P 0 → zIo [o + 6] h g → LCt P (gI g (o + 6)) p 1 → zV G zX4_laysCopies 4 2 [(0, .ref o), (1, .int (jI (((p : Nat) : Int))))] [] g (zOkV (fun h1 => zIo [o + 6] h h1 ∧ LC P (gI h1 (o + 6)))) := by
    intro f
    induction f with
    | zero =>
      intro p g h1 i1 i2
      have hM2 : MdL g o := hM.io i1
      have hP2 : gI g (o + 1) = P := (i1.row (by simp)).trans hP
      refine zV_iload_n 1 dX4_laysCopies_2 rfl rfl ?_
      refine zV_aload_n 0 dX4_laysCopies_3 rfl rfl (Or.inr ⟨_, rfl⟩) ?_
      refine zc_V (y' := zX4_many) (as := []) (rest := [.int (jI (((p : Nat) : Int)))]) (ci := 3) (q := (RX4, TX4, 27)) bX4_many dX4_laysCopies_4 q2042 q2044 qs50 (md_k hM2) rfl (c_X4_many hM2 hP2) rfl rfl (by decide) (Nat.le_of_ble_eq_true rfl) (by decide) (zk_J1 ?_)
      refine zV_jcmp_ge 60 dX4_laysCopies_7 rfl ⟨by omega, by omega⟩ (by rw [← hP2]; exact jr_toInt _) (fun c2 => ?_) (fun c_ => absurd c_ (by omega))
      exact zV_return dX4_laysCopies_60 rfl ⟨rfl, i1, fun q d h1 h2 h3 => i2 q d h1 h2 h3 (by omega)⟩
    | succ f ih =>
      intro p g h1 i1 i2
      have hM2 : MdL g o := hM.io i1
      have hP2 : gI g (o + 1) = P := (i1.row (by simp)).trans hP
      refine zV_iload_n 1 dX4_laysCopies_2 rfl rfl ?_
      refine zV_aload_n 0 dX4_laysCopies_3 rfl rfl (Or.inr ⟨_, rfl⟩) ?_
      refine zc_V (y' := zX4_many) (as := []) (rest := [.int (jI (((p : Nat) : Int)))]) (ci := 3) (q := (RX4, TX4, 27)) bX4_many dX4_laysCopies_4 q2042 q2044 qs50 (md_k hM2) rfl (c_X4_many hM2 hP2) rfl rfl (by decide) (Nat.le_of_ble_eq_true rfl) (by decide) (zk_J1 ?_)
      refine zV_jcmp_ge 60 dX4_laysCopies_7 rfl ⟨by omega, by omega⟩ (by rw [← hP2]; exact jr_toInt _) (fun c_ => absurd c_ (by omega)) (fun c2 => ?_)
      refine zV_iconst (n := 1) dX4_laysCopies_10 ?_
      refine zV_istore_n (lv' := [(0, .ref o), (1, .int (jI (((p : Nat) : Int)))), (2, .int (jI (1)))]) 2 dX4_laysCopies_11 rfl (by decide) rfl rfl ?_
      have key2 : ∀ f2 d : Nat, ∀ g : zH, d + f2 = 33 → 1 ≤ d → zIo [o + 6] h g → LCt P (gI g (o + 6)) p d → zV G zX4_laysCopies 4 12 [(0, .ref o), (1, .int (jI (((p : Nat) : Int)))), (2, .int (jI (((d : Nat) : Int))))] [] g (zOkV (fun h1 => zIo [o + 6] h h1 ∧ LC P (gI h1 (o + 6)))) := by
        intro f2
        induction f2 with
        | zero =>
          intro d g h1 h2 j1 j2
          have hM2 : MdL g o := hM.io j1
          have hP2 : gI g (o + 1) = P := (j1.row (by simp)).trans hP
          refine zV_iload_n 2 dX4_laysCopies_12 rfl rfl ?_
          refine zV_jbipush dX4_laysCopies_13 (by decide) ?_
          refine zV_jcmp_ge 54 dX4_laysCopies_15 rfl ⟨by omega, by omega⟩ ⟨by decide, by decide⟩ (fun c3 => ?_) (fun c_ => absurd c_ (by omega))
          refine zV_jinc (lv' := [(0, .ref o), (1, .int (jI (((p : Nat) : Int) + 1))), (2, .int (jI (((d : Nat) : Int))))]) dX4_laysCopies_54 rfl (by decide) rfl rfl ?_
          refine zV_goto 2 dX4_laysCopies_57 rfl ?_
          refine zV.loc (lv' := [(0, .ref o), (1, .int (jI (((p : Nat) : Int) + 1)))]) (fun q_ hq_ => (List.Sublist.cons₂ _ (List.Sublist.cons₂ _ (List.Sublist.cons _ List.Sublist.slnil))).subset hq_) ?_
          rw [show (((p : Nat) : Int) + 1 : Int) = ((p + 1 : Nat) : Int) from by omega]
          exact ih (p + 1) g (by omega) j1 (fun q d h1 h2 h3 h4 => j2 q d h1 h2 h3 (by omega))
        | succ f2 ih2 =>
          intro d g h1 h2 j1 j2
          have hM2 : MdL g o := hM.io j1
          have hP2 : gI g (o + 1) = P := (j1.row (by simp)).trans hP
          refine zV_iload_n 2 dX4_laysCopies_12 rfl rfl ?_
          refine zV_jbipush dX4_laysCopies_13 (by decide) ?_
          refine zV_jcmp_ge 54 dX4_laysCopies_15 rfl ⟨by omega, by omega⟩ ⟨by decide, by decide⟩ (fun c_ => absurd c_ (by omega)) (fun c3 => ?_)
          refine zV_aload_n 0 dX4_laysCopies_18 rfl rfl (Or.inr ⟨_, rfl⟩) ?_
          refine zV_getf (v := .ref (o + 6)) (ci := 3) (q := (RX4, TX4, 27)) 8 dX4_laysCopies_19 q1925 (md_k hM2) rfl (by decide) (congrArg va_rf (md_r_longest hM2)) (by decide) ?_
          refine zV_jbipush dX4_laysCopies_22 (by decide) ?_
          refine zV_iload_n 1 dX4_laysCopies_24 rfl rfl ?_
          refine zV_jmul dX4_laysCopies_25 ?_
          refine zV_iload_n 2 dX4_laysCopies_26 rfl rfl ?_
          refine zV_jadd dX4_laysCopies_27 ?_
          refine zV_iload_n 2 dX4_laysCopies_28 rfl rfl ?_
          refine zV_aload_n 0 dX4_laysCopies_29 rfl rfl (Or.inr ⟨_, rfl⟩) ?_
          refine zV_iconst (n := 0) dX4_laysCopies_30 ?_
          refine zc_V (y' := zX4_set) (as := [.int (jI (0))]) (rest := [.int (jI (((d : Nat) : Int))), .int (jI ((33 * ((p : Nat) : Int)) + ((d : Nat) : Int))), .ref (o + 6)]) (ci := 3) (q := (RX4, TX4, 27)) bX4_set dX4_laysCopies_31 q2157 q2159 qs73 (md_k hM2) rfl (c_X4_set hM2 hP2 0 (by omega)) rfl rfl (by decide) (Nat.le_of_ble_eq_true rfl) (by decide) (zk_J1 ?_)
          refine zV.eq (show (P (0 + 1) : Int) = P 1 from rfl) ?_
          refine zV_jcmp_le 41 dX4_laysCopies_34 rfl ⟨by omega, by omega⟩ (by rw [← hP2]; exact jr_toInt _) (fun c4 => ?_) (fun c4 => ?_)
          · refine zV_aload_n 0 dX4_laysCopies_41 rfl rfl (Or.inr ⟨_, rfl⟩) ?_
            refine zV_iload_n 1 dX4_laysCopies_42 rfl rfl ?_
            refine zV_iload_n 2 dX4_laysCopies_43 rfl rfl ?_
            refine zc_V (y' := zX4_worksLongest) (as := [.int (jI (((p : Nat) : Int))), .int (jI (((d : Nat) : Int)))]) (rest := [.int (jI ((33 * ((p : Nat) : Int)) + ((d : Nat) : Int))), .ref (o + 6)]) (ci := 3) (q := (RX4, TX4, 27)) bX4_worksLongest dX4_laysCopies_44 q2194 q2196 qs80 (md_k hM2) rfl (c_X4_worksLongest hM2 hP2 hw p d (by omega) (by omega) (by omega)) rfl rfl (by decide) (Nat.le_of_ble_eq_true rfl) (by decide) (zk_J1 ?_)
            refine zV_jiast (x := jI (((wkL P p d : Nat) : Int))) (33 * p + d) 2112 dX4_laysCopies_47 (md_k_longest hM2) (Nat.le_trans (md_ge hM2) (by omega)) (md_z_longest hM2) (by omega) (by omega) (by omega) ?_
            refine zV_jinc (lv' := [(0, .ref o), (1, .int (jI (((p : Nat) : Int)))), (2, .int (jI (((d : Nat) : Int) + 1)))]) dX4_laysCopies_48 rfl (by decide) rfl rfl ?_
            refine zV_goto 12 dX4_laysCopies_51 rfl ?_
            rw [show (((d : Nat) : Int) + 1 : Int) = ((d + 1 : Nat) : Int) from by omega]
            refine ih2 (d + 1) _ (by omega) (by omega) (j1.put (by simp)) (fun a b h1 h2 h3 h4 => ?_)
            rw [gI_put (⟨by omega, by have := wkL_le P p d; omega⟩)]
            by_cases hab : a = p ∧ b = d
            · rw [if_pos ⟨rfl, by omega⟩, hab.1, hab.2]; rw [lg, wkL]; congr 1; by_cases hc : d ≤ p ∧ isCd P p (p - d)
              · rw [if_pos hc, if_pos ⟨by omega, hc.1, hc.2⟩]
              · rw [if_neg hc, if_neg (fun z => hc z.2)]
            · rw [if_neg (fun z => hab ⟨by omega, by omega⟩)]; exact j2 a b h1 h2 h3 (by omega)
          · refine zV_iconst (n := 0) dX4_laysCopies_37 ?_
            refine zV_goto 47 dX4_laysCopies_38 rfl ?_
            refine zV_jiast (x := jI (0)) (33 * p + d) 2112 dX4_laysCopies_47 (md_k_longest hM2) (Nat.le_trans (md_ge hM2) (by omega)) (md_z_longest hM2) (by omega) (by omega) (by omega) ?_
            refine zV_jinc (lv' := [(0, .ref o), (1, .int (jI (((p : Nat) : Int)))), (2, .int (jI (((d : Nat) : Int) + 1)))]) dX4_laysCopies_48 rfl (by decide) rfl rfl ?_
            refine zV_goto 12 dX4_laysCopies_51 rfl ?_
            rw [show (((d : Nat) : Int) + 1 : Int) = ((d + 1 : Nat) : Int) from by omega]
            refine ih2 (d + 1) _ (by omega) (by omega) (j1.put (by simp)) (fun a b h1 h2 h3 h4 => ?_)
            rw [gI_put (⟨by decide, by decide⟩)]
            by_cases hab : a = p ∧ b = d
            · rw [if_pos ⟨rfl, by omega⟩, hab.1, hab.2]; rw [lg, if_neg (by omega)]; rfl
            · rw [if_neg (fun z => hab ⟨by omega, by omega⟩)]; exact j2 a b h1 h2 h3 (by omega)
      exact key2 32 1 g (by omega) (by omega) i1 i2
  exact key (P 0).toNat 0 h (by omega) zIo.rf (fun _ _ _ _ _ z => by omega)
end M4
