/-! ===== THE MODEL, 11: questions about what there is (printed by a program of gen/) ===== -/
set_option maxRecDepth 100000
section M11
variable {G : zG} {h : zH} {o : Nat} {P : pRow}
def lmS (P : pRow) : Int32 := fU (fun k x => x ||| (jI 1 <<< (jI (P (k + 43)) &&& 31))) (P 0).toNat 0 (jI 0)
def lmN (P : pRow) : Int := (fU (fun c x => x + ((lmS P >>> (jI ((c : Nat) : Int) &&& 31)) &&& jI 1)) 26 0 (jI 0)).toInt
theorem c_X4_letterMany (hM : MdL h o) (hP : gI h (o + 1) = P) (hw : pWf P) : zM G zX4_letterMany 1 [.ref o] h (zJ h (some (.int (jI (lmN P))))) := by
  obtain ⟨w0, w0b, w1, w1b, w2, w2b, w3, w3b, w4, w4b, w5, w5b, wp, wl, wn⟩ := id hw
  refine zM.ofV (lv := [(0, .ref o)]) (by decide +kernel) (Nat.le_of_ble_eq_true rfl) rfl ?_
  refine zV_iconst (n := 0) dX4_letterMany_0 ?_
  refine zV_istore_n (lv' := [(0, .ref o), (1, .int (jI (0)))]) 1 dX4_letterMany_1 rfl (by decide) rfl rfl ?_
  refine zV_iconst (n := 0) dX4_letterMany_2 ?_
  refine zV_istore_n (lv' := [(0, .ref o), (1, .int (jI (0))), (2, .int (jI (0)))]) 2 dX4_letterMany_3 rfl (by decide) rfl rfl ?_
  have key2 : ∀ f c : Nat, ∀ x : Int32, c + f = 26 → zV G zX4_letterMany 1 32 [(0, .ref o), (1, .int (lmS P)), (2, .int (x)), (3, .int (jI (((c : Nat) : Int))))] [] h (zJ h (some (.int (fU (fun c x => x + ((lmS P >>> (jI ((c : Nat) : Int) &&& 31)) &&& jI 1)) f c x)))) := by
    intro f
    induction f with
    | zero =>
      intro c x h1
      refine zV_iload_n 3 dX4_letterMany_32 rfl rfl ?_
      refine zV_jbipush dX4_letterMany_33 (by decide) ?_
      refine zV_jcmp_ge 52 dX4_letterMany_35 rfl ⟨by omega, by omega⟩ ⟨by decide, by decide⟩ (fun c1 => ?_) (fun c_ => absurd c_ (by omega))
      refine zV_iload_n 2 dX4_letterMany_52 rfl rfl ?_
      exact zV_ireturn dX4_letterMany_53 rfl rfl ⟨rfl, rfl⟩
    | succ f ih =>
      intro c x h1
      refine zV_iload_n 3 dX4_letterMany_32 rfl rfl ?_
      refine zV_jbipush dX4_letterMany_33 (by decide) ?_
      refine zV_jcmp_ge 52 dX4_letterMany_35 rfl ⟨by omega, by omega⟩ ⟨by decide, by decide⟩ (fun c_ => absurd c_ (by omega)) (fun c1 => ?_)
      refine zV_iload_n 2 dX4_letterMany_38 rfl rfl ?_
      refine zV_iload_n 1 dX4_letterMany_39 rfl rfl ?_
      refine zV_iload_n 3 dX4_letterMany_40 rfl rfl ?_
      refine zV_ishr dX4_letterMany_41 ?_
      refine zV_iconst (n := 1) dX4_letterMany_42 ?_
      refine zV_iand dX4_letterMany_43 ?_
      refine zV_iadd dX4_letterMany_44 ?_
      refine zV_istore_n (lv' := [(0, .ref o), (1, .int (lmS P)), (2, .int (x + (((lmS P) >>> ((jI (((c : Nat) : Int))) &&& 31)) &&& (jI (1))))), (3, .int (jI (((c : Nat) : Int))))]) 2 dX4_letterMany_45 rfl (by decide) rfl rfl ?_
      refine zV_jinc (lv' := [(0, .ref o), (1, .int (lmS P)), (2, .int (x + (((lmS P) >>> ((jI (((c : Nat) : Int))) &&& 31)) &&& (jI (1))))), (3, .int (jI (((c : Nat) : Int) + 1)))]) dX4_letterMany_46 rfl (by decide) rfl rfl ?_
      refine zV_goto 32 dX4_letterMany_49 rfl ?_
      rw [show (((c : Nat) : Int) + 1 : Int) = ((c + 1 : Nat) : Int) from by omega]
      exact ih (c + 1) _ (by omega)
  have key : ∀ f p : Nat, ∀ x : Int32, (p : Int) + f = P 0 → fU (fun k x => x ||| (jI 1 <<< (jI (P (k + 43)) &&& 31))) f p x = lmS P → zV G zX4_letterMany 1 4 [(0, .ref o), (1, .int (x)), (2, .int (jI (((p : Nat) : Int))))] [] h (zJ h (some (.int (jI (lmN P))))) := by
    intro f
    induction f with
    | zero =>
      intro p x h1 h2
      refine zV_iload_n 2 dX4_letterMany_4 rfl rfl ?_
      refine zV_aload_n 0 dX4_letterMany_5 rfl rfl (Or.inr ⟨_, rfl⟩) ?_
      refine zc_V (y' := zX4_many) (as := []) (rest := [.int (jI (((p : Nat) : Int)))]) (ci := 3) (q := (RX4, TX4, 27)) bX4_many dX4_letterMany_6 q2042 q2044 qs50 (md_k hM) rfl (c_X4_many hM hP) rfl rfl (by decide) (Nat.le_of_ble_eq_true rfl) (by decide) (zk_J1 ?_)
      refine zV_jcmp_ge 28 dX4_letterMany_9 rfl ⟨by omega, by omega⟩ (by rw [← hP]; exact jr_toInt _) (fun c1 => ?_) (fun c_ => absurd c_ (by omega))
      refine zV_iconst (n := 0) dX4_letterMany_28 ?_
      refine zV_istore_n (lv' := [(0, .ref o), (1, .int (x)), (2, .int (jI (0)))]) 2 dX4_letterMany_29 rfl (by decide) rfl rfl ?_
      refine zV_iconst (n := 0) dX4_letterMany_30 ?_
      refine zV_istore_n (lv' := [(0, .ref o), (1, .int (x)), (2, .int (jI (0))), (3, .int (jI (0)))]) 3 dX4_letterMany_31 rfl (by decide) rfl rfl ?_
      rw [show x = lmS P from h2, show jI (lmN P) = _ from (jI_of _).symm]
      exact key2 26 0 (jI 0) (by omega)
    | succ f ih =>
      intro p x h1 h2
      refine zV_iload_n 2 dX4_letterMany_4 rfl rfl ?_
      refine zV_aload_n 0 dX4_letterMany_5 rfl rfl (Or.inr ⟨_, rfl⟩) ?_
      refine zc_V (y' := zX4_many) (as := []) (rest := [.int (jI (((p : Nat) : Int)))]) (ci := 3) (q := (RX4, TX4, 27)) bX4_many dX4_letterMany_6 q2042 q2044 qs50 (md_k hM) rfl (c_X4_many hM hP) rfl rfl (by decide) (Nat.le_of_ble_eq_true rfl) (by decide) (zk_J1 ?_)
      refine zV_jcmp_ge 28 dX4_letterMany_9 rfl ⟨by omega, by omega⟩ (by rw [← hP]; exact jr_toInt _) (fun c_ => absurd c_ (by omega)) (fun c1 => ?_)
      refine zV_iload_n 1 dX4_letterMany_12 rfl rfl ?_
      refine zV_iconst (n := 1) dX4_letterMany_13 ?_
      refine zV_aload_n 0 dX4_letterMany_14 rfl rfl (Or.inr ⟨_, rfl⟩) ?_
      refine zV_iload_n 2 dX4_letterMany_15 rfl rfl ?_
      refine zc_V (y' := zX4_letter) (as := [.int (jI (((p : Nat) : Int)))]) (rest := [.int (jI (1)), .int (x)]) (ci := 3) (q := (RX4, TX4, 27)) bX4_letter dX4_letterMany_16 q2176 q2178 qs77 (md_k hM) rfl (c_X4_letter hM hP (p) (by omega)) rfl rfl (by decide) (Nat.le_of_ble_eq_true rfl) (by decide) (zk_J1 ?_)
      refine zV_ishl dX4_letterMany_19 ?_
      refine zV_ior dX4_letterMany_20 ?_
      refine zV_istore_n (lv' := [(0, .ref o), (1, .int (x ||| ((jI (1)) <<< ((jI (P (p + 43))) &&& 31)))), (2, .int (jI (((p : Nat) : Int))))]) 1 dX4_letterMany_21 rfl (by decide) rfl rfl ?_
      refine zV_jinc (lv' := [(0, .ref o), (1, .int (x ||| ((jI (1)) <<< ((jI (P (p + 43))) &&& 31)))), (2, .int (jI (((p : Nat) : Int) + 1)))]) dX4_letterMany_22 rfl (by decide) rfl rfl ?_
      refine zV_goto 4 dX4_letterMany_25 rfl ?_
      rw [show (((p : Nat) : Int) + 1 : Int) = ((p + 1 : Nat) : Int) from by omega]
      exact ih (p + 1) _ (by omega) h2
  exact key (P 0).toNat 0 (jI 0) (by omega) rfl
def vCount (P : pRow) (n : Int) (a : Nat) : Int := if a = 0 then P 0 else if a = 1 then pinN P else if a = 2 then wCd P else if a = 3 then wCp P else if a = 4 then aCp P else if a = 5 then ((aLo P : Nat) : Int) else if a = 6 then lmN P else n
theorem c_X4_count (hM : MdL h o) (hP : gI h (o + 1) = P) (hw : pWf P) (a : Int) (ha : jr a) : zM G zX4_count 6 [.ref o, .int (jI a)] h (zAn o (ma1 (0 ≤ a ∧ a ≤ 7)) (vCount P (gI h o 6) a.toNat) h) := by
  refine zM.ofV (lv := [(0, .ref o), (1, .int (jI (a)))]) (by decide +kernel) (Nat.le_of_ble_eq_true rfl) rfl ?_
  refine zV_aload_n 0 dX4_count_0 rfl rfl (Or.inr ⟨_, rfl⟩) ?_
  refine zV_iload_n 1 dX4_count_1 rfl rfl ?_
  refine zV_iconst (n := 0) dX4_count_2 ?_
  refine zV_jbipush dX4_count_3 (by decide) ?_
  refine zc_S (y' := zX4_isIn) (as := [.int (jI (a)), .int (jI (0)), .int (jI (7))]) (rest := [.ref o]) bX4_isIn dX4_count_5 q2012 q2013 (c_X4_isIn (a) (0) (7) ha ⟨by decide, by decide⟩ ⟨by decide, by decide⟩) rfl rfl (by decide) (Nat.le_of_ble_eq_true rfl) (zk_J1 ?_)
  refine zc_V (y' := zX4_mayOne) (as := [.int (jI (bI (0 ≤ a ∧ a ≤ 7)))]) (rest := []) (ci := 3) (q := (RX4, TX4, 27)) bX4_mayOne dX4_count_8 q2141 q2143 qs69 (md_k hM) rfl (c_X4_mayOne hM (0 ≤ a ∧ a ≤ 7)) rfl rfl (by decide) (Nat.le_of_ble_eq_true rfl) (by decide) (zk_I (fun z h1 ⟨ez, i0⟩ _ => ?_))
  subst ez
  have hM1 : MdL h1 o := hM.ch i0.1
  have hP1 : gI h1 (o + 1) = P := (i0.1.row (by simp)).trans hP
  by_cases cm : 0 ≤ a ∧ a ≤ 7
  · refine zV.eq (show (bI (0 ≤ a ∧ a ≤ 7) : Int) = 1 from bI_t cm) ?_
    refine zV_jif_ne 16 dX4_count_11 rfl ⟨by decide, by decide⟩ (fun _ => ?_) (fun c_ => absurd c_ (by decide))
    refine zV_iload_n 1 dX4_count_16 rfl rfl ?_
    obtain ⟨k, rfl⟩ : ∃ n_ : Nat, a = (n_ : Int) := ⟨(a).toNat, by omega⟩
    rcases (show k = 0 ∨ k = 1 ∨ k = 2 ∨ k = 3 ∨ k = 4 ∨ k = 5 ∨ k = 6 ∨ k = 7 from by omega) with rfl | rfl | rfl | rfl | rfl | rfl | rfl | rfl
    · refine zV_jtableIn 0 60 dX4_count_17 ⟨by omega, by omega⟩ (by omega) (by omega) rfl rfl ?_
      refine zV_aload_n 0 dX4_count_60 rfl rfl (Or.inr ⟨_, rfl⟩) ?_
      refine zc_V (y' := zX4_many) (as := []) (rest := []) (ci := 3) (q := (RX4, TX4, 27)) bX4_many dX4_count_61 q2042 q2044 qs50 (md_k hM1) rfl (c_X4_many hM1 hP1) rfl rfl (by decide) (Nat.le_of_ble_eq_true rfl) (by decide) (zk_J1 ?_)
      exact zV_ireturn dX4_count_64 rfl rfl ⟨_, rfl, i0.go0, fun _ => rfl⟩
    · refine zV_jtableIn 1 65 dX4_count_17 ⟨by omega, by omega⟩ (by omega) (by omega) rfl rfl ?_
      refine zV_aload_n 0 dX4_count_65 rfl rfl (Or.inr ⟨_, rfl⟩) ?_
      refine zc_V (y' := zX4_pinMany) (as := []) (rest := []) (ci := 3) (q := (RX4, TX4, 27)) bX4_pinMany dX4_count_66 q2093 q2095 qs62 (md_k hM1) rfl (c_X4_pinMany hM1 hP1 hw) rfl rfl (by decide) (Nat.le_of_ble_eq_true rfl) (by decide) (zk_J1 ?_)
      exact zV_ireturn dX4_count_69 rfl rfl ⟨_, rfl, i0.go0, fun _ => rfl⟩
    · refine zV_jtableIn 2 70 dX4_count_17 ⟨by omega, by omega⟩ (by omega) (by omega) rfl rfl ?_
      refine zV_aload_n 0 dX4_count_70 rfl rfl (Or.inr ⟨_, rfl⟩) ?_
      refine zc_V (y' := zX4_withCandidates) (as := []) (rest := []) (ci := 3) (q := (RX4, TX4, 27)) bX4_withCandidates dX4_count_71 q2149 q2151 qs71 (md_k hM1) rfl (c_X4_withCandidates hM1 hP1 hw) rfl rfl (by decide) (Nat.le_of_ble_eq_true rfl) (by decide) (zk_J1 ?_)
      exact zV_ireturn dX4_count_74 rfl rfl ⟨_, rfl, i0.go0, fun _ => rfl⟩
    · refine zV_jtableIn 3 75 dX4_count_17 ⟨by omega, by omega⟩ (by omega) (by omega) rfl rfl ?_
      refine zV_aload_n 0 dX4_count_75 rfl rfl (Or.inr ⟨_, rfl⟩) ?_
      refine zc_V (y' := zX4_withCopies) (as := []) (rest := []) (ci := 3) (q := (RX4, TX4, 27)) bX4_withCopies dX4_count_76 q2186 q2188 qs78 (md_k hM1) rfl (c_X4_withCopies hM1 hP1 hw) rfl rfl (by decide) (Nat.le_of_ble_eq_true rfl) (by decide) (zk_I (fun z h2 ⟨ez, j1, j2⟩ _ => ?_))
      subst ez
      exact zV_ireturn dX4_count_79 rfl rfl ⟨_, rfl, i0.go (zCh.io j1 (by simp) : zCh [o + 6] o [] h1 h2) (by simp) (by simp) (by simp), fun _ => rfl⟩
    · refine zV_jtableIn 4 80 dX4_count_17 ⟨by omega, by omega⟩ (by omega) (by omega) rfl rfl ?_
      refine zV_aload_n 0 dX4_count_80 rfl rfl (Or.inr ⟨_, rfl⟩) ?_
      refine zc_V (y' := zX4_copiesAll) (as := []) (rest := []) (ci := 3) (q := (RX4, TX4, 27)) bX4_copiesAll dX4_count_81 q2214 q2216 qs85 (md_k hM1) rfl (c_X4_copiesAll hM1 hP1 hw) rfl rfl (by decide) (Nat.le_of_ble_eq_true rfl) (by decide) (zk_I (fun z h2 ⟨ez, j1, j2⟩ _ => ?_))
      subst ez
      exact zV_ireturn dX4_count_84 rfl rfl ⟨_, rfl, i0.go (zCh.io j1 (by simp) : zCh [o + 6] o [] h1 h2) (by simp) (by simp) (by simp), fun _ => rfl⟩
    · refine zV_jtableIn 5 85 dX4_count_17 ⟨by omega, by omega⟩ (by omega) (by omega) rfl rfl ?_
      refine zV_aload_n 0 dX4_count_85 rfl rfl (Or.inr ⟨_, rfl⟩) ?_
      refine zc_V (y' := zX4_longestAll) (as := []) (rest := []) (ci := 3) (q := (RX4, TX4, 27)) bX4_longestAll dX4_count_86 q2222 q2224 qs87 (md_k hM1) rfl (c_X4_longestAll hM1 hP1 hw) rfl rfl (by decide) (Nat.le_of_ble_eq_true rfl) (by decide) (zk_I (fun z h2 ⟨ez, j1, j2⟩ _ => ?_))
      subst ez
      exact zV_ireturn dX4_count_89 rfl rfl ⟨_, rfl, i0.go (zCh.io j1 (by simp) : zCh [o + 6] o [] h1 h2) (by simp) (by simp) (by simp), fun _ => rfl⟩
    · refine zV_jtableIn 6 90 dX4_count_17 ⟨by omega, by omega⟩ (by omega) (by omega) rfl rfl ?_
      refine zV_aload_n 0 dX4_count_90 rfl rfl (Or.inr ⟨_, rfl⟩) ?_
      refine zc_V (y' := zX4_letterMany) (as := []) (rest := []) (ci := 3) (q := (RX4, TX4, 27)) bX4_letterMany dX4_count_91 q2226 q2228 qs88 (md_k hM1) rfl (c_X4_letterMany hM1 hP1 hw) rfl rfl (by decide) (Nat.le_of_ble_eq_true rfl) (by decide) (zk_J1 ?_)
      exact zV_ireturn dX4_count_94 rfl rfl ⟨_, rfl, i0.go0, fun _ => rfl⟩
    · refine zV_jtableOut 95 dX4_count_17 ⟨by omega, by omega⟩ (by omega) rfl ?_
      refine zV_aload_n 0 dX4_count_95 rfl rfl (Or.inr ⟨_, rfl⟩) ?_
      refine zV_tgetf (ci := 3) (q := (RX4, TX4, 27)) 6 dX4_count_96 q1923 (md_k hM1) rfl (by decide) rfl (by decide) ?_
      refine zV.eq (show ((zI h1 o 6).toInt : Int) = gI h o 6 from i0.1.2 6 (by simp)) ?_
      exact zV_ireturn dX4_count_99 rfl rfl ⟨_, rfl, i0.go0, fun _ => rfl⟩
  · refine zV.eq (show (bI (0 ≤ a ∧ a ≤ 7) : Int) = 0 from bI_f cm) ?_
    refine zV_jif_ne 16 dX4_count_11 rfl ⟨by decide, by decide⟩ (fun c_ => absurd c_ (by decide)) (fun _ => ?_)
    refine zV_iconst (n := 0) dX4_count_14 ?_
    exact zV_ireturn dX4_count_15 rfl rfl ⟨_, rfl, i0.go0, fun e => absurd e (ma1_ne cm)⟩
theorem c_X4_account (hM : MdL h o) (hP : gI h (o + 1) = P) (hw : pWf P) (a : Int) (ha : jr a) : zM G zX4_account 2 [.ref o, .int (jI a)] h (zAn o (ma1 (0 ≤ a ∧ a ≤ 5)) (P (a.toNat + 37)) h) := by
  refine zM.ofV (lv := [(0, .ref o), (1, .int (jI (a)))]) (by decide +kernel) (Nat.le_of_ble_eq_true rfl) rfl ?_
  refine zV_aload_n 0 dX4_account_0 rfl rfl (Or.inr ⟨_, rfl⟩) ?_
  refine zV_iload_n 1 dX4_account_1 rfl rfl ?_
  refine zV_iconst (n := 0) dX4_account_2 ?_
  refine zV_iconst (n := 5) dX4_account_3 ?_
  refine zc_S (y' := zX4_isIn) (as := [.int (jI (a)), .int (jI (0)), .int (jI (5))]) (rest := [.ref o]) bX4_isIn dX4_account_4 q2012 q2013 (c_X4_isIn (a) (0) (5) ha ⟨by decide, by decide⟩ ⟨by decide, by decide⟩) rfl rfl (by decide) (Nat.le_of_ble_eq_true rfl) (zk_J1 ?_)
  refine zc_V (y' := zX4_mayOne) (as := [.int (jI (bI (0 ≤ a ∧ a ≤ 5)))]) (rest := []) (ci := 3) (q := (RX4, TX4, 27)) bX4_mayOne dX4_account_7 q2141 q2143 qs69 (md_k hM) rfl (c_X4_mayOne hM (0 ≤ a ∧ a ≤ 5)) rfl rfl (by decide) (Nat.le_of_ble_eq_true rfl) (by decide) (zk_I (fun z h1 ⟨ez, i0⟩ _ => ?_))
  subst ez
  have hM1 : MdL h1 o := hM.ch i0.1
  have hP1 : gI h1 (o + 1) = P := (i0.1.row (by simp)).trans hP
  by_cases cm : 0 ≤ a ∧ a ≤ 5
  · refine zV.eq (show (bI (0 ≤ a ∧ a ≤ 5) : Int) = 1 from bI_t cm) ?_
    refine zV_jif_eq 25 dX4_account_10 rfl ⟨by decide, by decide⟩ (fun c_ => absurd c_ (by decide)) (fun _ => ?_)
    obtain ⟨k, rfl⟩ : ∃ n_ : Nat, a = (n_ : Int) := ⟨(a).toNat, by omega⟩
    refine zV_aload_n 0 dX4_account_13 rfl rfl (Or.inr ⟨_, rfl⟩) ?_
    refine zV_getf (v := .ref (o + 1)) (ci := 3) (q := (RX4, TX4, 27)) 1 dX4_account_14 q1918 (md_k hM1) rfl (by decide) (congrArg va_rf (md_r_s hM1)) (by decide) ?_
    refine zV_jbipush dX4_account_17 (by decide) ?_
    refine zV_iload_n 1 dX4_account_19 rfl rfl ?_
    refine zV_jadd dX4_account_20 ?_
    refine zV_tiald (k + 37) 171 dX4_account_21 (md_k_s hM1) (md_z_s hM1) (by omega) (by omega) (by omega) ?_
    refine zV.eq (congrFun hP1 (k + 37)) ?_
    refine zV_goto 26 dX4_account_22 rfl ?_
    exact zV_ireturn dX4_account_26 rfl rfl ⟨_, rfl, i0.go0, fun _ => rfl⟩
  · refine zV.eq (show (bI (0 ≤ a ∧ a ≤ 5) : Int) = 0 from bI_f cm) ?_
    refine zV_jif_eq 25 dX4_account_10 rfl ⟨by decide, by decide⟩ (fun _ => ?_) (fun c_ => absurd c_ (by decide))
    refine zV_iconst (n := 0) dX4_account_25 ?_
    exact zV_ireturn dX4_account_26 rfl rfl ⟨_, rfl, i0.go0, fun e => absurd e (ma1_ne cm)⟩
theorem c_X4_setting (hM : MdL h o) (hP : gI h (o + 1) = P) (hw : pWf P) (a : Int) (ha : jr a) : zM G zX4_setting 2 [.ref o, .int (jI a)] h (zAn o (ma1 (0 ≤ a ∧ a ≤ 4)) (P (a.toNat + 1)) h) := by
  refine zM.ofV (lv := [(0, .ref o), (1, .int (jI (a)))]) (by decide +kernel) (Nat.le_of_ble_eq_true rfl) rfl ?_
  refine zV_aload_n 0 dX4_setting_0 rfl rfl (Or.inr ⟨_, rfl⟩) ?_
  refine zV_iload_n 1 dX4_setting_1 rfl rfl ?_
  refine zc_S (y' := zX4_isSetting) (as := [.int (jI (a))]) (rest := [.ref o]) bX4_isSetting dX4_setting_2 q2238 q2239 (c_X4_isSetting a ha) rfl rfl (by decide) (Nat.le_of_ble_eq_true rfl) (zk_J1 ?_)
  refine zc_V (y' := zX4_mayOne) (as := [.int (jI (bI (0 ≤ a ∧ a ≤ 4)))]) (rest := []) (ci := 3) (q := (RX4, TX4, 27)) bX4_mayOne dX4_setting_5 q2141 q2143 qs69 (md_k hM) rfl (c_X4_mayOne hM (0 ≤ a ∧ a ≤ 4)) rfl rfl (by decide) (Nat.le_of_ble_eq_true rfl) (by decide) (zk_I (fun z h1 ⟨ez, i0⟩ _ => ?_))
  subst ez
  have hM1 : MdL h1 o := hM.ch i0.1
  have hP1 : gI h1 (o + 1) = P := (i0.1.row (by simp)).trans hP
  by_cases cm : 0 ≤ a ∧ a ≤ 4
  · refine zV.eq (show (bI (0 ≤ a ∧ a ≤ 4) : Int) = 1 from bI_t cm) ?_
    refine zV_jif_eq 19 dX4_setting_8 rfl ⟨by decide, by decide⟩ (fun c_ => absurd c_ (by decide)) (fun _ => ?_)
    obtain ⟨k, rfl⟩ : ∃ n_ : Nat, a = (n_ : Int) := ⟨(a).toNat, by omega⟩
    refine zV_aload_n 0 dX4_setting_11 rfl rfl (Or.inr ⟨_, rfl⟩) ?_
    refine zV_iload_n 1 dX4_setting_12 rfl rfl ?_
    refine zc_V (y' := zX4_set) (as := [.int (jI (((k : Nat) : Int)))]) (rest := []) (ci := 3) (q := (RX4, TX4, 27)) bX4_set dX4_setting_13 q2157 q2159 qs73 (md_k hM1) rfl (c_X4_set hM1 hP1 k (by omega)) rfl rfl (by decide) (Nat.le_of_ble_eq_true rfl) (by decide) (zk_J1 ?_)
    refine zV_goto 20 dX4_setting_16 rfl ?_
    exact zV_ireturn dX4_setting_20 rfl rfl ⟨_, rfl, i0.go0, fun _ => rfl⟩
  · refine zV.eq (show (bI (0 ≤ a ∧ a ≤ 4) : Int) = 0 from bI_f cm) ?_
    refine zV_jif_eq 19 dX4_setting_8 rfl ⟨by decide, by decide⟩ (fun _ => ?_) (fun c_ => absurd c_ (by decide))
    refine zV_iconst (n := 0) dX4_setting_19 ?_
    exact zV_ireturn dX4_setting_20 rfl rfl ⟨_, rfl, i0.go0, fun e => absurd e (ma1_ne cm)⟩
theorem c_X4_price (hM : MdL h o) (hP : gI h (o + 1) = P) (hw : pWf P) (a : Int) (ha : jr a) : zM G zX4_price 2 [.ref o, .int (jI a)] h (zAn o (ma1 (0 ≤ a ∧ a ≤ 30)) (P (a.toNat + 6)) h) := by
  refine zM.ofV (lv := [(0, .ref o), (1, .int (jI (a)))]) (by decide +kernel) (Nat.le_of_ble_eq_true rfl) rfl ?_
  refine zV_aload_n 0 dX4_price_0 rfl rfl (Or.inr ⟨_, rfl⟩) ?_
  refine zV_iload_n 1 dX4_price_1 rfl rfl ?_
  refine zc_S (y' := zX4_isPrice) (as := [.int (jI (a))]) (rest := [.ref o]) bX4_isPrice dX4_price_2 q2245 q2246 (c_X4_isPrice a ha) rfl rfl (by decide) (Nat.le_of_ble_eq_true rfl) (zk_J1 ?_)
  refine zc_V (y' := zX4_mayOne) (as := [.int (jI (bI (0 ≤ a ∧ a ≤ 30)))]) (rest := []) (ci := 3) (q := (RX4, TX4, 27)) bX4_mayOne dX4_price_5 q2141 q2143 qs69 (md_k hM) rfl (c_X4_mayOne hM (0 ≤ a ∧ a ≤ 30)) rfl rfl (by decide) (Nat.le_of_ble_eq_true rfl) (by decide) (zk_I (fun z h1 ⟨ez, i0⟩ _ => ?_))
  subst ez
  have hM1 : MdL h1 o := hM.ch i0.1
  have hP1 : gI h1 (o + 1) = P := (i0.1.row (by simp)).trans hP
  by_cases cm : 0 ≤ a ∧ a ≤ 30
  · refine zV.eq (show (bI (0 ≤ a ∧ a ≤ 30) : Int) = 1 from bI_t cm) ?_
    refine zV_jif_eq 19 dX4_price_8 rfl ⟨by decide, by decide⟩ (fun c_ => absurd c_ (by decide)) (fun _ => ?_)
    obtain ⟨k, rfl⟩ : ∃ n_ : Nat, a = (n_ : Int) := ⟨(a).toNat, by omega⟩
    refine zV_aload_n 0 dX4_price_11 rfl rfl (Or.inr ⟨_, rfl⟩) ?_
    refine zV_iload_n 1 dX4_price_12 rfl rfl ?_
    refine zc_V (y' := zX4_cost) (as := [.int (jI (((k : Nat) : Int)))]) (rest := []) (ci := 3) (q := (RX4, TX4, 27)) bX4_cost dX4_price_13 q2248 q2250 qs89 (md_k hM1) rfl (c_X4_cost hM1 hP1 k (by omega)) rfl rfl (by decide) (Nat.le_of_ble_eq_true rfl) (by decide) (zk_J1 ?_)
    refine zV_goto 20 dX4_price_16 rfl ?_
    exact zV_ireturn dX4_price_20 rfl rfl ⟨_, rfl, i0.go0, fun _ => rfl⟩
  · refine zV.eq (show (bI (0 ≤ a ∧ a ≤ 30) : Int) = 0 from bI_f cm) ?_
    refine zV_jif_eq 19 dX4_price_8 rfl ⟨by decide, by decide⟩ (fun _ => ?_) (fun c_ => absurd c_ (by decide))
    refine zV_iconst (n := 0) dX4_price_19 ?_
    exact zV_ireturn dX4_price_20 rfl rfl ⟨_, rfl, i0.go0, fun e => absurd e (ma1_ne cm)⟩
def vOf (P : pRow) (p b : Nat) : Int := if b = 4 then ((loN P p : Nat) : Int) else if b = 5 then ((neN P p : Nat) : Int) else nCp P p
def vPl (P : pRow) (p b : Nat) : Int := if b = 0 then P (p + 43) else if b = 1 then P (p + 107) else if b = 2 then ((chainN P p : Nat) : Int) else if b = 3 then candN P p else vOf P p b
theorem c_X4_ofPlace (hM : MdL h o) (hP : gI h (o + 1) = P) (hw : pWf P) (p b : Nat) (hp : (p : Int) < P 0) (hb : b < 10) : zM G zX4_ofPlace 5 [.ref o, .int (jI (p : Int)), .int (jI (b : Int))] h (zOkI (fun z h1 => z = vOf P p b ∧ zIo [o + 6] h h1)) := by
  obtain ⟨w0, w0b, w1, w1b, w2, w2b, w3, w3b, w4, w4b, w5, w5b, wp, wl, wn⟩ := id hw
  refine zM.ofV (lv := [(0, .ref o), (1, .int (jI ((p : Int)))), (2, .int (jI (((b : Nat) : Int))))]) (by decide +kernel) (Nat.le_of_ble_eq_true rfl) rfl ?_
  refine zV_aload_n 0 dX4_ofPlace_0 rfl rfl (Or.inr ⟨_, rfl⟩) ?_
  refine zc_V (y' := zX4_laysCopies) (as := []) (rest := []) (ci := 3) (q := (RX4, TX4, 27)) bX4_laysCopies dX4_ofPlace_1 q2190 q2192 qs79 (md_k hM) rfl (c_X4_laysCopies hM hP hw) rfl rfl (by decide) (Nat.le_of_ble_eq_true rfl) (by decide) (zk_V (fun h1 ⟨j1, j2⟩ _ => ?_))
  have hM1 := hM.io j1
  have hP1 : gI h1 (o + 1) = P := (j1.row (by simp)).trans hP
  refine zV_iload_n 2 dX4_ofPlace_4 rfl rfl ?_
  refine zV_iconst (n := 4) dX4_ofPlace_5 ?_
  refine zV_jcmp_ne 17 dX4_ofPlace_6 rfl ⟨by omega, by omega⟩ ⟨by decide, by decide⟩ (fun c1 => ?_) (fun c1 => ?_)
  · refine zV_iload_n 2 dX4_ofPlace_17 rfl rfl ?_
    refine zV_iconst (n := 5) dX4_ofPlace_18 ?_
    refine zV_jcmp_ne 30 dX4_ofPlace_19 rfl ⟨by omega, by omega⟩ ⟨by decide, by decide⟩ (fun c2 => ?_) (fun c2 => ?_)
    · refine zV_aload_n 0 dX4_ofPlace_30 rfl rfl (Or.inr ⟨_, rfl⟩) ?_
      refine zV_iload_n 1 dX4_ofPlace_31 rfl rfl ?_
      refine zc_V (y' := zX4_copiesAt) (as := [.int (jI ((p : Int)))]) (rest := []) (ci := 3) (q := (RX4, TX4, 27)) bX4_copiesAt dX4_ofPlace_32 q2218 q2220 qs86 (md_k hM1) rfl (c_X4_copiesAt hM1 hP1 hw j2 p hp) rfl rfl (by decide) (Nat.le_of_ble_eq_true rfl) (by decide) (zk_J1 ?_)
      exact zV_ireturn dX4_ofPlace_35 rfl rfl ⟨_, rfl, by rw [vOf, if_neg (by omega), if_neg (by omega)], j1⟩
    · refine zV_aload_n 0 dX4_ofPlace_22 rfl rfl (Or.inr ⟨_, rfl⟩) ?_
      refine zV_iload_n 1 dX4_ofPlace_23 rfl rfl ?_
      refine zc_V (y' := zX4_nearestOf) (as := [.int (jI ((p : Int)))]) (rest := []) (ci := 3) (q := (RX4, TX4, 27)) bX4_nearestOf dX4_ofPlace_24 q2264 q2266 qs92 (md_k hM1) rfl (c_X4_nearestOf hM1 hP1 hw j2 p hp) rfl rfl (by decide) (Nat.le_of_ble_eq_true rfl) (by decide) (zk_J1 ?_)
      refine zV_goto 35 dX4_ofPlace_27 rfl ?_
      exact zV_ireturn dX4_ofPlace_35 rfl rfl ⟨_, rfl, by rw [vOf, if_neg (by omega), if_pos (by omega)], j1⟩
  · refine zV_aload_n 0 dX4_ofPlace_9 rfl rfl (Or.inr ⟨_, rfl⟩) ?_
    refine zV_iload_n 1 dX4_ofPlace_10 rfl rfl ?_
    refine zc_V (y' := zX4_longestOf) (as := [.int (jI ((p : Int)))]) (rest := []) (ci := 3) (q := (RX4, TX4, 27)) bX4_longestOf dX4_ofPlace_11 q2206 q2208 qs83 (md_k hM1) rfl (c_X4_longestOf hM1 hP1 hw j2 p hp) rfl rfl (by decide) (Nat.le_of_ble_eq_true rfl) (by decide) (zk_J1 ?_)
    refine zV_goto 35 dX4_ofPlace_14 rfl ?_
    exact zV_ireturn dX4_ofPlace_35 rfl rfl ⟨_, rfl, by rw [vOf, if_pos (by omega)], j1⟩
theorem c_X4_place (hM : MdL h o) (hP : gI h (o + 1) = P) (hw : pWf P) (a : Int) (ha : jr a) (b : Int) (hb : jr b) : zM G zX4_place 6 [.ref o, .int (jI a), .int (jI b)] h (zAn o (ma2 (0 ≤ a ∧ a < P 0) (0 ≤ b ∧ b ≤ 6)) (vPl P a.toNat b.toNat) h) := by
  obtain ⟨w0, w0b, w1, w1b, w2, w2b, w3, w3b, w4, w4b, w5, w5b, wp, wl, wn⟩ := id hw
  refine zM.ofV (lv := [(0, .ref o), (1, .int (jI (a))), (2, .int (jI (b)))]) (by decide +kernel) (Nat.le_of_ble_eq_true rfl) rfl ?_
  refine zV_aload_n 0 dX4_place_0 rfl rfl (Or.inr ⟨_, rfl⟩) ?_
  refine zV_aload_n 0 dX4_place_1 rfl rfl (Or.inr ⟨_, rfl⟩) ?_
  refine zV_iload_n 1 dX4_place_2 rfl rfl ?_
  refine zc_V (y' := zX4_isPlace) (as := [.int (jI (a))]) (rest := [.ref o]) (ci := 3) (q := (RX4, TX4, 27)) bX4_isPlace dX4_place_3 q2256 q2258 qs90 (md_k hM) rfl (c_X4_isPlace hM hP hw a ha) rfl rfl (by decide) (Nat.le_of_ble_eq_true rfl) (by decide) (zk_J1 ?_)
  refine zV_iload_n 2 dX4_place_6 rfl rfl ?_
  refine zV_iconst (n := 0) dX4_place_7 ?_
  refine zV_jbipush dX4_place_8 (by decide) ?_
  refine zc_S (y' := zX4_isIn) (as := [.int (jI (b)), .int (jI (0)), .int (jI (6))]) (rest := [.int (jI (bI (0 ≤ a ∧ a < P 0))), .ref o]) bX4_isIn dX4_place_10 q2012 q2013 (c_X4_isIn (b) (0) (6) hb ⟨by decide, by decide⟩ ⟨by decide, by decide⟩) rfl rfl (by decide) (Nat.le_of_ble_eq_true rfl) (zk_J1 ?_)
  refine zc_V (y' := zX4_mayTwo) (as := [.int (jI (bI (0 ≤ a ∧ a < P 0))), .int (jI (bI (0 ≤ b ∧ b ≤ 6)))]) (rest := []) (ci := 3) (q := (RX4, TX4, 27)) bX4_mayTwo dX4_place_13 q2145 q2147 qs70 (md_k hM) rfl (c_X4_mayTwo hM (0 ≤ a ∧ a < P 0) (0 ≤ b ∧ b ≤ 6)) rfl rfl (by decide) (Nat.le_of_ble_eq_true rfl) (by decide) (zk_I (fun z h1 ⟨ez, i0⟩ _ => ?_))
  subst ez
  have hM1 : MdL h1 o := hM.ch i0.1
  have hP1 : gI h1 (o + 1) = P := (i0.1.row (by simp)).trans hP
  by_cases cm : (0 ≤ a ∧ a < P 0) ∧ (0 ≤ b ∧ b ≤ 6)
  · refine zV.eq (show (bI ((0 ≤ a ∧ a < P 0) ∧ (0 ≤ b ∧ b ≤ 6)) : Int) = 1 from bI_t cm) ?_
    refine zV_jif_ne 21 dX4_place_16 rfl ⟨by decide, by decide⟩ (fun _ => ?_) (fun c_ => absurd c_ (by decide))
    obtain ⟨p, rfl⟩ : ∃ n_ : Nat, a = (n_ : Int) := ⟨(a).toNat, by omega⟩
    obtain ⟨k, rfl⟩ : ∃ n_ : Nat, b = (n_ : Int) := ⟨(b).toNat, by omega⟩
    refine zV_iload_n 2 dX4_place_21 rfl rfl ?_
    rcases (show k = 0 ∨ k = 1 ∨ k = 2 ∨ k = 3 ∨ k = 4 ∨ k = 5 ∨ k = 6 from by omega) with rfl | rfl | rfl | rfl | rfl | rfl | rfl
    · refine zV_jtableIn 0 52 dX4_place_22 ⟨by omega, by omega⟩ (by omega) (by omega) rfl rfl ?_
      refine zV_aload_n 0 dX4_place_52 rfl rfl (Or.inr ⟨_, rfl⟩) ?_
      refine zV_iload_n 1 dX4_place_53 rfl rfl ?_
      refine zc_V (y' := zX4_letter) (as := [.int (jI (((p : Nat) : Int)))]) (rest := []) (ci := 3) (q := (RX4, TX4, 27)) bX4_letter dX4_place_54 q2176 q2178 qs77 (md_k hM1) rfl (c_X4_letter hM1 hP1 (p) (by omega)) rfl rfl (by decide) (Nat.le_of_ble_eq_true rfl) (by decide) (zk_J1 ?_)
      exact zV_ireturn dX4_place_57 rfl rfl ⟨_, rfl, i0.go0, fun _ => rfl⟩
    · refine zV_jtableIn 1 58 dX4_place_22 ⟨by omega, by omega⟩ (by omega) (by omega) rfl rfl ?_
      refine zV_aload_n 0 dX4_place_58 rfl rfl (Or.inr ⟨_, rfl⟩) ?_
      refine zV_getf (v := .ref (o + 1)) (ci := 3) (q := (RX4, TX4, 27)) 1 dX4_place_59 q1918 (md_k hM1) rfl (by decide) (congrArg va_rf (md_r_s hM1)) (by decide) ?_
      refine zV_jbipush dX4_place_62 (by decide) ?_
      refine zV_iload_n 1 dX4_place_64 rfl rfl ?_
      refine zV_jadd dX4_place_65 ?_
      refine zV_tiald (p + 107) 171 dX4_place_66 (md_k_s hM1) (md_z_s hM1) (by omega) (by omega) (by omega) ?_
      refine zV.eq (congrFun hP1 (p + 107)) ?_
      exact zV_ireturn dX4_place_67 rfl rfl ⟨_, rfl, i0.go0, fun _ => rfl⟩
    · refine zV_jtableIn 2 68 dX4_place_22 ⟨by omega, by omega⟩ (by omega) (by omega) rfl rfl ?_
      refine zV_aload_n 0 dX4_place_68 rfl rfl (Or.inr ⟨_, rfl⟩) ?_
      refine zV_iload_n 1 dX4_place_69 rfl rfl ?_
      refine zc_V (y' := zX4_chainMany) (as := [.int (jI (((p : Nat) : Int)))]) (rest := []) (ci := 3) (q := (RX4, TX4, 27)) bX4_chainMany dX4_place_70 q2161 q2163 qs74 (md_k hM1) rfl (c_X4_chainMany hM1 hP1 hw p (by omega)) rfl rfl (by decide) (Nat.le_of_ble_eq_true rfl) (by decide) (zk_J1 ?_)
      exact zV_ireturn dX4_place_73 rfl rfl ⟨_, rfl, i0.go0, fun _ => rfl⟩
    · refine zV_jtableIn 3 74 dX4_place_22 ⟨by omega, by omega⟩ (by omega) (by omega) rfl rfl ?_
      refine zV_aload_n 0 dX4_place_74 rfl rfl (Or.inr ⟨_, rfl⟩) ?_
      refine zV_iload_n 1 dX4_place_75 rfl rfl ?_
      refine zc_V (y' := zX4_candidateMany) (as := [.int (jI (((p : Nat) : Int)))]) (rest := []) (ci := 3) (q := (RX4, TX4, 27)) bX4_candidateMany dX4_place_76 q2153 q2155 qs72 (md_k hM1) rfl (c_X4_candidateMany hM1 hP1 hw p (by omega)) rfl rfl (by decide) (Nat.le_of_ble_eq_true rfl) (by decide) (zk_J1 ?_)
      exact zV_ireturn dX4_place_79 rfl rfl ⟨_, rfl, i0.go0, fun _ => rfl⟩
    · refine zV_jtableOut 80 dX4_place_22 ⟨by omega, by omega⟩ (by omega) rfl ?_
      refine zV_aload_n 0 dX4_place_80 rfl rfl (Or.inr ⟨_, rfl⟩) ?_
      refine zV_iload_n 1 dX4_place_81 rfl rfl ?_
      refine zV_iload_n 2 dX4_place_82 rfl rfl ?_
      refine zc_V (y' := zX4_ofPlace) (as := [.int (jI (((p : Nat) : Int))), .int (jI (((4 : Nat) : Int)))]) (rest := []) (ci := 3) (q := (RX4, TX4, 27)) bX4_ofPlace dX4_place_83 q2260 q2262 qs91 (md_k hM1) rfl (c_X4_ofPlace hM1 hP1 hw p 4 (by omega) (by omega)) rfl rfl (by decide) (Nat.le_of_ble_eq_true rfl) (by decide) (zk_I (fun z h2 ⟨ez, j1⟩ _ => ?_))
      subst ez
      exact zV_ireturn dX4_place_86 rfl rfl ⟨_, rfl, i0.go (zCh.io j1 (by simp) : zCh [o + 6] o [] h1 h2) (by simp) (by simp) (by simp), fun _ => rfl⟩
    · refine zV_jtableOut 80 dX4_place_22 ⟨by omega, by omega⟩ (by omega) rfl ?_
      refine zV_aload_n 0 dX4_place_80 rfl rfl (Or.inr ⟨_, rfl⟩) ?_
      refine zV_iload_n 1 dX4_place_81 rfl rfl ?_
      refine zV_iload_n 2 dX4_place_82 rfl rfl ?_
      refine zc_V (y' := zX4_ofPlace) (as := [.int (jI (((p : Nat) : Int))), .int (jI (((5 : Nat) : Int)))]) (rest := []) (ci := 3) (q := (RX4, TX4, 27)) bX4_ofPlace dX4_place_83 q2260 q2262 qs91 (md_k hM1) rfl (c_X4_ofPlace hM1 hP1 hw p 5 (by omega) (by omega)) rfl rfl (by decide) (Nat.le_of_ble_eq_true rfl) (by decide) (zk_I (fun z h2 ⟨ez, j1⟩ _ => ?_))
      subst ez
      exact zV_ireturn dX4_place_86 rfl rfl ⟨_, rfl, i0.go (zCh.io j1 (by simp) : zCh [o + 6] o [] h1 h2) (by simp) (by simp) (by simp), fun _ => rfl⟩
    · refine zV_jtableOut 80 dX4_place_22 ⟨by omega, by omega⟩ (by omega) rfl ?_
      refine zV_aload_n 0 dX4_place_80 rfl rfl (Or.inr ⟨_, rfl⟩) ?_
      refine zV_iload_n 1 dX4_place_81 rfl rfl ?_
      refine zV_iload_n 2 dX4_place_82 rfl rfl ?_
      refine zc_V (y' := zX4_ofPlace) (as := [.int (jI (((p : Nat) : Int))), .int (jI (((6 : Nat) : Int)))]) (rest := []) (ci := 3) (q := (RX4, TX4, 27)) bX4_ofPlace dX4_place_83 q2260 q2262 qs91 (md_k hM1) rfl (c_X4_ofPlace hM1 hP1 hw p 6 (by omega) (by omega)) rfl rfl (by decide) (Nat.le_of_ble_eq_true rfl) (by decide) (zk_I (fun z h2 ⟨ez, j1⟩ _ => ?_))
      subst ez
      exact zV_ireturn dX4_place_86 rfl rfl ⟨_, rfl, i0.go (zCh.io j1 (by simp) : zCh [o + 6] o [] h1 h2) (by simp) (by simp) (by simp), fun _ => rfl⟩
  · refine zV.eq (show (bI ((0 ≤ a ∧ a < P 0) ∧ (0 ≤ b ∧ b ≤ 6)) : Int) = 0 from bI_f cm) ?_
    refine zV_jif_ne 21 dX4_place_16 rfl ⟨by decide, by decide⟩ (fun c_ => absurd c_ (by decide)) (fun _ => ?_)
    refine zV_iconst (n := 0) dX4_place_19 ?_
    exact zV_ireturn dX4_place_20 rfl rfl ⟨_, rfl, i0.go0, fun e => absurd e (ma2_ne cm)⟩
theorem candN_le {P : pRow} (hw : pWf P) (p : Nat) : candN P p ≤ 16 := by
  have h3 := hw.2.2.2.2.2.1
  unfold candN
  omega
theorem c_X4_candidate (hM : MdL h o) (hP : gI h (o + 1) = P) (hw : pWf P) (a : Int) (ha : jr a) (b : Int) (hb : jr b) : zM G zX4_candidate 4 [.ref o, .int (jI a), .int (jI b)] h (zAn o (ma1 ((0 ≤ a ∧ a < P 0) ∧ (0 ≤ b ∧ b ≤ candN P a.toNat - 1))) (chA P a.toNat (pE P a.toNat) a.toNat b.toNat) h) := by
  obtain ⟨w0, w0b, w1, w1b, w2, w2b, w3, w3b, w4, w4b, w5, w5b, wp, wl, wn⟩ := id hw
  refine zM.ofV (lv := [(0, .ref o), (1, .int (jI (a))), (2, .int (jI (b)))]) (by decide +kernel) (Nat.le_of_ble_eq_true rfl) rfl ?_
  refine zV_aload_n 0 dX4_candidate_0 rfl rfl (Or.inr ⟨_, rfl⟩) ?_
  refine zV_iload_n 1 dX4_candidate_1 rfl rfl ?_
  refine zc_V (y' := zX4_isPlace) (as := [.int (jI (a))]) (rest := []) (ci := 3) (q := (RX4, TX4, 27)) bX4_isPlace dX4_candidate_2 q2256 q2258 qs90 (md_k hM) rfl (c_X4_isPlace hM hP hw a ha) rfl rfl (by decide) (Nat.le_of_ble_eq_true rfl) (by decide) (zk_J1 ?_)
  by_cases c1 : 0 ≤ a ∧ a < P 0
  · refine zV.eq (show (bI (0 ≤ a ∧ a < P 0) : Int) = 1 from bI_t c1) ?_
    refine zV_istore_n (lv' := [(0, .ref o), (1, .int (jI (a))), (2, .int (jI (b))), (3, .int (jI (1)))]) 3 dX4_candidate_5 rfl (by decide) rfl rfl ?_
    refine zV_aload_n 0 dX4_candidate_6 rfl rfl (Or.inr ⟨_, rfl⟩) ?_
    refine zV_iload_n 3 dX4_candidate_7 rfl rfl ?_
    refine zV_jif_eq 30 dX4_candidate_8 rfl ⟨by decide, by decide⟩ (fun c_ => absurd c_ (by decide)) (fun _ => ?_)
    obtain ⟨p, rfl⟩ : ∃ n_ : Nat, a = (n_ : Int) := ⟨(a).toNat, by omega⟩
    obtain ⟨hcn1, hcn2⟩ := candN_b hw p (by omega)
    refine zV_iload_n 2 dX4_candidate_11 rfl rfl ?_
    refine zV_iconst (n := 0) dX4_candidate_12 ?_
    refine zV_aload_n 0 dX4_candidate_13 rfl rfl (Or.inr ⟨_, rfl⟩) ?_
    refine zV_iload_n 1 dX4_candidate_14 rfl rfl ?_
    refine zc_V (y' := zX4_candidateMany) (as := [.int (jI (((p : Nat) : Int)))]) (rest := [.int (jI (0)), .int (jI (b)), .ref o]) (ci := 3) (q := (RX4, TX4, 27)) bX4_candidateMany dX4_candidate_15 q2153 q2155 qs72 (md_k hM) rfl (c_X4_candidateMany hM hP hw p (by omega)) rfl rfl (by decide) (Nat.le_of_ble_eq_true rfl) (by decide) (zk_J1 ?_)
    have hcg : 0 ≤ candN P p := by unfold candN; omega
    refine zV_iconst (n := 1) dX4_candidate_18 ?_
    refine zV_jsub dX4_candidate_19 ?_
    refine zc_S (y' := zX4_isIn) (as := [.int (jI (b)), .int (jI (0)), .int (jI ((candN P p) - 1))]) (rest := [.ref o]) bX4_isIn dX4_candidate_20 q2012 q2013 (c_X4_isIn (b) (0) (candN P p - 1) hb ⟨by decide, by decide⟩ ⟨by omega, by omega⟩) rfl rfl (by decide) (Nat.le_of_ble_eq_true rfl) (zk_J1 ?_)
    by_cases c2 : 0 ≤ b ∧ b ≤ candN P p - 1
    · refine zV.eq (show (bI (0 ≤ b ∧ b ≤ candN P p - 1) : Int) = 1 from bI_t c2) ?_
      refine zV_jif_eq 30 dX4_candidate_23 rfl ⟨by decide, by decide⟩ (fun c_ => absurd c_ (by decide)) (fun _ => ?_)
      refine zV_iconst (n := 1) dX4_candidate_26 ?_
      refine zV_goto 31 dX4_candidate_27 rfl ?_
      refine zV.eq (show (1 : Int) = bI ((0 ≤ ((p : Nat) : Int) ∧ ((p : Nat) : Int) < P 0) ∧ (0 ≤ b ∧ b ≤ candN P ((p : Nat) : Int).toNat - 1)) from (bI_t ⟨c1, c2⟩).symm) ?_
      refine zc_V (y' := zX4_mayOne) (as := [.int (jI (bI ((0 ≤ ((p : Nat) : Int) ∧ ((p : Nat) : Int) < P 0) ∧ (0 ≤ b ∧ b ≤ candN P ((p : Nat) : Int).toNat - 1))))]) (rest := []) (ci := 3) (q := (RX4, TX4, 27)) bX4_mayOne dX4_candidate_31 q2141 q2143 qs69 (md_k hM) rfl (c_X4_mayOne hM ((0 ≤ ((p : Nat) : Int) ∧ ((p : Nat) : Int) < P 0) ∧ (0 ≤ b ∧ b ≤ candN P ((p : Nat) : Int).toNat - 1))) rfl rfl (by decide) (Nat.le_of_ble_eq_true rfl) (by decide) (zk_I (fun z h1 ⟨ez, i0⟩ _ => ?_))
      subst ez
      have hM1 : MdL h1 o := hM.ch i0.1
      have hP1 : gI h1 (o + 1) = P := (i0.1.row (by simp)).trans hP
      by_cases cm : (0 ≤ ((p : Nat) : Int) ∧ ((p : Nat) : Int) < P 0) ∧ (0 ≤ b ∧ b ≤ candN P ((p : Nat) : Int).toNat - 1)
      · refine zV.eq (show (bI ((0 ≤ ((p : Nat) : Int) ∧ ((p : Nat) : Int) < P 0) ∧ (0 ≤ b ∧ b ≤ candN P ((p : Nat) : Int).toNat - 1)) : Int) = 1 from bI_t cm) ?_
        refine zV_jif_ne 39 dX4_candidate_34 rfl ⟨by decide, by decide⟩ (fun _ => ?_) (fun c_ => absurd c_ (by decide))
        obtain ⟨k, rfl⟩ : ∃ n_ : Nat, b = (n_ : Int) := ⟨(b).toNat, by have := cm.2.1; omega⟩
        refine zV_aload_n 0 dX4_candidate_39 rfl rfl (Or.inr ⟨_, rfl⟩) ?_
        refine zV_iload_n 1 dX4_candidate_40 rfl rfl ?_
        refine zV_iload_n 2 dX4_candidate_41 rfl rfl ?_
        have hc12 := candN_le hw p
        refine zc_V (y' := zX4_chainAt) (as := [.int (jI (((p : Nat) : Int))), .int (jI (((k : Nat) : Int)))]) (rest := []) (ci := 3) (q := (RX4, TX4, 27)) bX4_chainAt dX4_candidate_42 q2272 q2274 qs93 (md_k hM1) rfl (c_X4_chainAt hM1 hP1 hw p k (by omega) (by have := cm.2.2; simp only [Int.toNat_natCast] at this; omega)) rfl rfl (by decide) (Nat.le_of_ble_eq_true rfl) (by decide) (zk_J1 ?_)
        exact zV_ireturn dX4_candidate_45 rfl rfl ⟨_, rfl, i0.go0, fun _ => rfl⟩
      · exact absurd ⟨c1, c2⟩ cm
    · refine zV.eq (show (bI (0 ≤ b ∧ b ≤ candN P p - 1) : Int) = 0 from bI_f c2) ?_
      refine zV_jif_eq 30 dX4_candidate_23 rfl ⟨by decide, by decide⟩ (fun _ => ?_) (fun c_ => absurd c_ (by decide))
      refine zV_iconst (n := 0) dX4_candidate_30 ?_
      refine zV.eq (show (0 : Int) = bI ((0 ≤ ((p : Nat) : Int) ∧ ((p : Nat) : Int) < P 0) ∧ (0 ≤ b ∧ b ≤ candN P ((p : Nat) : Int).toNat - 1)) from (bI_f (fun z => c2 z.2)).symm) ?_
      refine zc_V (y' := zX4_mayOne) (as := [.int (jI (bI ((0 ≤ ((p : Nat) : Int) ∧ ((p : Nat) : Int) < P 0) ∧ (0 ≤ b ∧ b ≤ candN P ((p : Nat) : Int).toNat - 1))))]) (rest := []) (ci := 3) (q := (RX4, TX4, 27)) bX4_mayOne dX4_candidate_31 q2141 q2143 qs69 (md_k hM) rfl (c_X4_mayOne hM ((0 ≤ ((p : Nat) : Int) ∧ ((p : Nat) : Int) < P 0) ∧ (0 ≤ b ∧ b ≤ candN P ((p : Nat) : Int).toNat - 1))) rfl rfl (by decide) (Nat.le_of_ble_eq_true rfl) (by decide) (zk_I (fun z h1 ⟨ez, i0⟩ _ => ?_))
      subst ez
      have hM1 : MdL h1 o := hM.ch i0.1
      have hP1 : gI h1 (o + 1) = P := (i0.1.row (by simp)).trans hP
      by_cases cm : (0 ≤ ((p : Nat) : Int) ∧ ((p : Nat) : Int) < P 0) ∧ (0 ≤ b ∧ b ≤ candN P ((p : Nat) : Int).toNat - 1)
      · exact absurd cm.2 c2
      · refine zV.eq (show (bI ((0 ≤ ((p : Nat) : Int) ∧ ((p : Nat) : Int) < P 0) ∧ (0 ≤ b ∧ b ≤ candN P ((p : Nat) : Int).toNat - 1)) : Int) = 0 from bI_f cm) ?_
        refine zV_jif_ne 39 dX4_candidate_34 rfl ⟨by decide, by decide⟩ (fun c_ => absurd c_ (by decide)) (fun _ => ?_)
        refine zV_iconst (n := 0) dX4_candidate_37 ?_
        exact zV_ireturn dX4_candidate_38 rfl rfl ⟨_, rfl, i0.go0, fun e => absurd e (ma1_ne cm)⟩
  · refine zV.eq (show (bI (0 ≤ a ∧ a < P 0) : Int) = 0 from bI_f c1) ?_
    refine zV_istore_n (lv' := [(0, .ref o), (1, .int (jI (a))), (2, .int (jI (b))), (3, .int (jI (0)))]) 3 dX4_candidate_5 rfl (by decide) rfl rfl ?_
    refine zV_aload_n 0 dX4_candidate_6 rfl rfl (Or.inr ⟨_, rfl⟩) ?_
    refine zV_iload_n 3 dX4_candidate_7 rfl rfl ?_
    refine zV_jif_eq 30 dX4_candidate_8 rfl ⟨by decide, by decide⟩ (fun _ => ?_) (fun c_ => absurd c_ (by decide))
    refine zV_iconst (n := 0) dX4_candidate_30 ?_
    refine zV.eq (show (0 : Int) = bI ((0 ≤ a ∧ a < P 0) ∧ (0 ≤ b ∧ b ≤ candN P a.toNat - 1)) from (bI_f (fun z => c1 z.1)).symm) ?_
    refine zc_V (y' := zX4_mayOne) (as := [.int (jI (bI ((0 ≤ a ∧ a < P 0) ∧ (0 ≤ b ∧ b ≤ candN P a.toNat - 1))))]) (rest := []) (ci := 3) (q := (RX4, TX4, 27)) bX4_mayOne dX4_candidate_31 q2141 q2143 qs69 (md_k hM) rfl (c_X4_mayOne hM ((0 ≤ a ∧ a < P 0) ∧ (0 ≤ b ∧ b ≤ candN P a.toNat - 1))) rfl rfl (by decide) (Nat.le_of_ble_eq_true rfl) (by decide) (zk_I (fun z h1 ⟨ez, i0⟩ _ => ?_))
    subst ez
    have hM1 : MdL h1 o := hM.ch i0.1
    have hP1 : gI h1 (o + 1) = P := (i0.1.row (by simp)).trans hP
    by_cases cm : (0 ≤ a ∧ a < P 0) ∧ (0 ≤ b ∧ b ≤ candN P a.toNat - 1)
    · exact absurd cm.1 c1
    · refine zV.eq (show (bI ((0 ≤ a ∧ a < P 0) ∧ (0 ≤ b ∧ b ≤ candN P a.toNat - 1)) : Int) = 0 from bI_f cm) ?_
      refine zV_jif_ne 39 dX4_candidate_34 rfl ⟨by decide, by decide⟩ (fun c_ => absurd c_ (by decide)) (fun _ => ?_)
      refine zV_iconst (n := 0) dX4_candidate_37 ?_
      exact zV_ireturn dX4_candidate_38 rfl rfl ⟨_, rfl, i0.go0, fun e => absurd e (ma1_ne cm)⟩
theorem c_X4_isCopyNumber (a : Int) (ha : jr a) (b : Int) (hb : jr b) : zM G zX4_isCopyNumber 1 [.int (jI a), .int (jI b)] h (zJ h (some (.int (jI (bI ((1 ≤ a ∧ a ≤ 64) ∧ (1 ≤ b ∧ b ≤ 64))))))) := by
  refine zM.ofV (lv := [(0, .int (jI (a))), (1, .int (jI (b)))]) (by decide +kernel) (Nat.le_of_ble_eq_true rfl) rfl ?_
  refine zV_iload_n 0 dX4_isCopyNumber_0 rfl rfl ?_
  refine zV_iconst (n := 1) dX4_isCopyNumber_1 ?_
  refine zV_jbipush dX4_isCopyNumber_2 (by decide) ?_
  refine zc_S (y' := zX4_isIn) (as := [.int (jI (a)), .int (jI (1)), .int (jI (64))]) (rest := []) bX4_isIn dX4_isCopyNumber_4 q2012 q2013 (c_X4_isIn (a) (1) (64) ha ⟨by decide, by decide⟩ ⟨by decide, by decide⟩) rfl rfl (by decide) (Nat.le_of_ble_eq_true rfl) (zk_J1 ?_)
  by_cases c1 : 1 ≤ a ∧ a ≤ 64
  · refine zV.eq (show (bI (1 ≤ a ∧ a ≤ 64) : Int) = 1 from bI_t c1) ?_
    refine zV_jif_eq 24 dX4_isCopyNumber_7 rfl ⟨by decide, by decide⟩ (fun c_ => absurd c_ (by decide)) (fun _ => ?_)
    refine zV_iload_n 1 dX4_isCopyNumber_10 rfl rfl ?_
    refine zV_iconst (n := 1) dX4_isCopyNumber_11 ?_
    refine zV_jbipush dX4_isCopyNumber_12 (by decide) ?_
    refine zc_S (y' := zX4_isIn) (as := [.int (jI (b)), .int (jI (1)), .int (jI (64))]) (rest := []) bX4_isIn dX4_isCopyNumber_14 q2012 q2013 (c_X4_isIn (b) (1) (64) hb ⟨by decide, by decide⟩ ⟨by decide, by decide⟩) rfl rfl (by decide) (Nat.le_of_ble_eq_true rfl) (zk_J1 ?_)
    by_cases c2 : 1 ≤ b ∧ b ≤ 64
    · refine zV.eq (show (bI (1 ≤ b ∧ b ≤ 64) : Int) = 1 from bI_t c2) ?_
      refine zV_jif_eq 24 dX4_isCopyNumber_17 rfl ⟨by decide, by decide⟩ (fun c_ => absurd c_ (by decide)) (fun _ => ?_)
      refine zV_iconst (n := 1) dX4_isCopyNumber_20 ?_
      refine zV_goto 25 dX4_isCopyNumber_21 rfl ?_
      exact zV_ireturn dX4_isCopyNumber_25 rfl rfl ⟨by rw [bI_t ⟨c1, c2⟩], rfl⟩
    · refine zV.eq (show (bI (1 ≤ b ∧ b ≤ 64) : Int) = 0 from bI_f c2) ?_
      refine zV_jif_eq 24 dX4_isCopyNumber_17 rfl ⟨by decide, by decide⟩ (fun _ => ?_) (fun c_ => absurd c_ (by decide))
      refine zV_iconst (n := 0) dX4_isCopyNumber_24 ?_
      exact zV_ireturn dX4_isCopyNumber_25 rfl rfl ⟨by rw [bI_f (fun z => c2 z.2)], rfl⟩
  · refine zV.eq (show (bI (1 ≤ a ∧ a ≤ 64) : Int) = 0 from bI_f c1) ?_
    refine zV_jif_eq 24 dX4_isCopyNumber_7 rfl ⟨by decide, by decide⟩ (fun _ => ?_) (fun c_ => absurd c_ (by decide))
    refine zV_iconst (n := 0) dX4_isCopyNumber_24 ?_
    exact zV_ireturn dX4_isCopyNumber_25 rfl rfl ⟨by rw [bI_f (fun z => c1 z.1)], rfl⟩
theorem c_X4_why (hM : MdL h o) (hP : gI h (o + 1) = P) (hw : pWf P) (a : Int) (ha : jr a) (b : Int) (hb : jr b) (c : Int) (hc : jr c) : zM G zX4_why 4 [.ref o, .int (jI a), .int (jI b), .int (jI c)] h (zAn o (ma2 (0 ≤ a ∧ a < P 0) ((1 ≤ b ∧ b ≤ 64) ∧ (1 ≤ c ∧ c ≤ 64))) (whyP P a.toNat b.toNat c.toNat) h) := by
  obtain ⟨w0, w0b, w1, w1b, w2, w2b, w3, w3b, w4, w4b, w5, w5b, wp, wl, wn⟩ := id hw
  refine zM.ofV (lv := [(0, .ref o), (1, .int (jI (a))), (2, .int (jI (b))), (3, .int (jI (c)))]) (by decide +kernel) (Nat.le_of_ble_eq_true rfl) rfl ?_
  refine zV_aload_n 0 dX4_why_0 rfl rfl (Or.inr ⟨_, rfl⟩) ?_
  refine zV_aload_n 0 dX4_why_1 rfl rfl (Or.inr ⟨_, rfl⟩) ?_
  refine zV_iload_n 1 dX4_why_2 rfl rfl ?_
  refine zc_V (y' := zX4_isPlace) (as := [.int (jI (a))]) (rest := [.ref o]) (ci := 3) (q := (RX4, TX4, 27)) bX4_isPlace dX4_why_3 q2256 q2258 qs90 (md_k hM) rfl (c_X4_isPlace hM hP hw a ha) rfl rfl (by decide) (Nat.le_of_ble_eq_true rfl) (by decide) (zk_J1 ?_)
  refine zV_iload_n 2 dX4_why_6 rfl rfl ?_
  refine zV_iload_n 3 dX4_why_7 rfl rfl ?_
  refine zc_S (y' := zX4_isCopyNumber) (as := [.int (jI (b)), .int (jI (c))]) (rest := [.int (jI (bI (0 ≤ a ∧ a < P 0))), .ref o]) bX4_isCopyNumber dX4_why_8 q2280 q2281 (c_X4_isCopyNumber b hb c hc) rfl rfl (by decide) (Nat.le_of_ble_eq_true rfl) (zk_J1 ?_)
  refine zc_V (y' := zX4_mayTwo) (as := [.int (jI (bI (0 ≤ a ∧ a < P 0))), .int (jI (bI ((1 ≤ b ∧ b ≤ 64) ∧ (1 ≤ c ∧ c ≤ 64))))]) (rest := []) (ci := 3) (q := (RX4, TX4, 27)) bX4_mayTwo dX4_why_11 q2145 q2147 qs70 (md_k hM) rfl (c_X4_mayTwo hM (0 ≤ a ∧ a < P 0) ((1 ≤ b ∧ b ≤ 64) ∧ (1 ≤ c ∧ c ≤ 64))) rfl rfl (by decide) (Nat.le_of_ble_eq_true rfl) (by decide) (zk_I (fun z h1 ⟨ez, i0⟩ _ => ?_))
  subst ez
  have hM1 : MdL h1 o := hM.ch i0.1
  have hP1 : gI h1 (o + 1) = P := (i0.1.row (by simp)).trans hP
  by_cases cm : (0 ≤ a ∧ a < P 0) ∧ ((1 ≤ b ∧ b ≤ 64) ∧ (1 ≤ c ∧ c ≤ 64))
  · refine zV.eq (show (bI ((0 ≤ a ∧ a < P 0) ∧ ((1 ≤ b ∧ b ≤ 64) ∧ (1 ≤ c ∧ c ≤ 64))) : Int) = 1 from bI_t cm) ?_
    refine zV_jif_eq 27 dX4_why_14 rfl ⟨by decide, by decide⟩ (fun c_ => absurd c_ (by decide)) (fun _ => ?_)
    obtain ⟨p, rfl⟩ : ∃ n_ : Nat, a = (n_ : Int) := ⟨(a).toNat, by omega⟩
    obtain ⟨n, rfl⟩ : ∃ n_ : Nat, b = (n_ : Int) := ⟨(b).toNat, by omega⟩
    obtain ⟨q, rfl⟩ : ∃ n_ : Nat, c = (n_ : Int) := ⟨(c).toNat, by omega⟩
    refine zV_aload_n 0 dX4_why_17 rfl rfl (Or.inr ⟨_, rfl⟩) ?_
    refine zV_iload_n 1 dX4_why_18 rfl rfl ?_
    refine zV_iload_n 2 dX4_why_19 rfl rfl ?_
    refine zV_iload_n 3 dX4_why_20 rfl rfl ?_
    refine zc_V (y' := zX4_reason) (as := [.int (jI (((p : Nat) : Int))), .int (jI (((n : Nat) : Int))), .int (jI (((q : Nat) : Int)))]) (rest := []) (ci := 3) (q := (RX4, TX4, 27)) bX4_reason dX4_why_21 q2283 q2285 qs94 (md_k hM1) rfl (c_X4_reason hM1 hP1 hw p n q (by omega) (by omega) (by omega) (by omega)) rfl rfl (by decide) (Nat.le_of_ble_eq_true rfl) (by decide) (zk_I (fun z h2 ⟨ez, eh⟩ _ => ?_))
    subst ez; subst eh
    refine zV_goto 28 dX4_why_24 rfl ?_
    exact zV_ireturn dX4_why_28 rfl rfl ⟨_, rfl, i0.go0, fun _ => rfl⟩
  · refine zV.eq (show (bI ((0 ≤ a ∧ a < P 0) ∧ ((1 ≤ b ∧ b ≤ 64) ∧ (1 ≤ c ∧ c ≤ 64))) : Int) = 0 from bI_f cm) ?_
    refine zV_jif_eq 27 dX4_why_14 rfl ⟨by decide, by decide⟩ (fun _ => ?_) (fun c_ => absurd c_ (by decide))
    refine zV_iconst (n := 0) dX4_why_27 ?_
    exact zV_ireturn dX4_why_28 rfl rfl ⟨_, rfl, i0.go0, fun e => absurd e (ma2_ne cm)⟩
def vSa (P : pRow) (p q : Nat) : Int := if p < q then -1 else ((sm P p q : Nat) : Int)
theorem c_X4_same (hM : MdL h o) (hP : gI h (o + 1) = P) (hw : pWf P) (a : Int) (ha : jr a) (b : Int) (hb : jr b) : zM G zX4_same 2 [.ref o, .int (jI a), .int (jI b)] h (zAn o (ma2 (0 ≤ a ∧ a < P 0) (1 ≤ b ∧ b ≤ 64)) (vSa P a.toNat b.toNat) h) := by
  obtain ⟨w0, w0b, w1, w1b, w2, w2b, w3, w3b, w4, w4b, w5, w5b, wp, wl, wn⟩ := id hw
  refine zM.ofV (lv := [(0, .ref o), (1, .int (jI (a))), (2, .int (jI (b)))]) (by decide +kernel) (Nat.le_of_ble_eq_true rfl) rfl ?_
  refine zV_aload_n 0 dX4_same_0 rfl rfl (Or.inr ⟨_, rfl⟩) ?_
  refine zV_aload_n 0 dX4_same_1 rfl rfl (Or.inr ⟨_, rfl⟩) ?_
  refine zV_iload_n 1 dX4_same_2 rfl rfl ?_
  refine zc_V (y' := zX4_isPlace) (as := [.int (jI (a))]) (rest := [.ref o]) (ci := 3) (q := (RX4, TX4, 27)) bX4_isPlace dX4_same_3 q2256 q2258 qs90 (md_k hM) rfl (c_X4_isPlace hM hP hw a ha) rfl rfl (by decide) (Nat.le_of_ble_eq_true rfl) (by decide) (zk_J1 ?_)
  refine zV_iload_n 2 dX4_same_6 rfl rfl ?_
  refine zV_iconst (n := 1) dX4_same_7 ?_
  refine zV_jbipush dX4_same_8 (by decide) ?_
  refine zc_S (y' := zX4_isIn) (as := [.int (jI (b)), .int (jI (1)), .int (jI (64))]) (rest := [.int (jI (bI (0 ≤ a ∧ a < P 0))), .ref o]) bX4_isIn dX4_same_10 q2012 q2013 (c_X4_isIn (b) (1) (64) hb ⟨by decide, by decide⟩ ⟨by decide, by decide⟩) rfl rfl (by decide) (Nat.le_of_ble_eq_true rfl) (zk_J1 ?_)
  refine zc_V (y' := zX4_mayTwo) (as := [.int (jI (bI (0 ≤ a ∧ a < P 0))), .int (jI (bI (1 ≤ b ∧ b ≤ 64)))]) (rest := []) (ci := 3) (q := (RX4, TX4, 27)) bX4_mayTwo dX4_same_13 q2145 q2147 qs70 (md_k hM) rfl (c_X4_mayTwo hM (0 ≤ a ∧ a < P 0) (1 ≤ b ∧ b ≤ 64)) rfl rfl (by decide) (Nat.le_of_ble_eq_true rfl) (by decide) (zk_I (fun z h1 ⟨ez, i0⟩ _ => ?_))
  subst ez
  have hM1 : MdL h1 o := hM.ch i0.1
  have hP1 : gI h1 (o + 1) = P := (i0.1.row (by simp)).trans hP
  by_cases cm : (0 ≤ a ∧ a < P 0) ∧ (1 ≤ b ∧ b ≤ 64)
  · refine zV.eq (show (bI ((0 ≤ a ∧ a < P 0) ∧ (1 ≤ b ∧ b ≤ 64)) : Int) = 1 from bI_t cm) ?_
    refine zV_jif_ne 21 dX4_same_16 rfl ⟨by decide, by decide⟩ (fun _ => ?_) (fun c_ => absurd c_ (by decide))
    obtain ⟨p, rfl⟩ : ∃ n_ : Nat, a = (n_ : Int) := ⟨(a).toNat, by omega⟩
    obtain ⟨q, rfl⟩ : ∃ n_ : Nat, b = (n_ : Int) := ⟨(b).toNat, by omega⟩
    refine zV_iload_n 2 dX4_same_21 rfl rfl ?_
    refine zV_iload_n 1 dX4_same_22 rfl rfl ?_
    refine zV_jcmp_le 30 dX4_same_23 rfl ⟨by omega, by omega⟩ ⟨by omega, by omega⟩ (fun c3 => ?_) (fun c3 => ?_)
    · refine zV_aload_n 0 dX4_same_30 rfl rfl (Or.inr ⟨_, rfl⟩) ?_
      refine zV_iload_n 1 dX4_same_31 rfl rfl ?_
      refine zV_iload_n 2 dX4_same_32 rfl rfl ?_
      refine zc_V (y' := zX4_sameMany) (as := [.int (jI (((p : Nat) : Int))), .int (jI (((q : Nat) : Int)))]) (rest := []) (ci := 3) (q := (RX4, TX4, 27)) bX4_sameMany dX4_same_33 q2202 q2204 qs82 (md_k hM1) rfl (c_X4_sameMany hM1 hP1 hw p q (by omega) (by omega)) rfl rfl (by decide) (Nat.le_of_ble_eq_true rfl) (by decide) (zk_J1 ?_)
      exact zV_ireturn dX4_same_36 rfl rfl ⟨_, rfl, i0.go0, fun _ => by simp only [Int.toNat_natCast]; rw [vSa, if_neg (by omega)]⟩
    · refine zV_iconst (n := (-1)) dX4_same_26 ?_
      refine zV_goto 36 dX4_same_27 rfl ?_
      exact zV_ireturn dX4_same_36 rfl rfl ⟨_, rfl, i0.go0, fun _ => by simp only [Int.toNat_natCast]; rw [vSa, if_pos (by omega)]⟩
  · refine zV.eq (show (bI ((0 ≤ a ∧ a < P 0) ∧ (1 ≤ b ∧ b ≤ 64)) : Int) = 0 from bI_f cm) ?_
    refine zV_jif_ne 21 dX4_same_16 rfl ⟨by decide, by decide⟩ (fun c_ => absurd c_ (by decide)) (fun _ => ?_)
    refine zV_iconst (n := 0) dX4_same_19 ?_
    exact zV_ireturn dX4_same_20 rfl rfl ⟨_, rfl, i0.go0, fun e => absurd e (ma2_ne cm)⟩
theorem c_X4_copyPrice (hM : MdL h o) (hP : gI h (o + 1) = P) (hw : pWf P) (a : Int) (ha : jr a) (b : Int) (hb : jr b) (c : Int) (hc : jr c) : zM G zX4_copyPrice 3 [.ref o, .int (jI a), .int (jI b), .int (jI c)] h (zAn o (ma1 (((1 ≤ a ∧ a ≤ 64) ∧ (1 ≤ b ∧ b ≤ 64)) ∧ (0 ≤ c ∧ c ≤ 64))) (cC P a.toNat b.toNat c.toNat) h) := by
  obtain ⟨w0, w0b, w1, w1b, w2, w2b, w3, w3b, w4, w4b, w5, w5b, wp, wl, wn⟩ := id hw
  refine zM.ofV (lv := [(0, .ref o), (1, .int (jI (a))), (2, .int (jI (b))), (3, .int (jI (c)))]) (by decide +kernel) (Nat.le_of_ble_eq_true rfl) rfl ?_
  refine zV_aload_n 0 dX4_copyPrice_0 rfl rfl (Or.inr ⟨_, rfl⟩) ?_
  refine zV_iload_n 1 dX4_copyPrice_1 rfl rfl ?_
  refine zV_iload_n 2 dX4_copyPrice_2 rfl rfl ?_
  refine zc_S (y' := zX4_isCopyNumber) (as := [.int (jI (a)), .int (jI (b))]) (rest := [.ref o]) bX4_isCopyNumber dX4_copyPrice_3 q2280 q2281 (c_X4_isCopyNumber a ha b hb) rfl rfl (by decide) (Nat.le_of_ble_eq_true rfl) (zk_J1 ?_)
  by_cases c1 : (1 ≤ a ∧ a ≤ 64) ∧ (1 ≤ b ∧ b ≤ 64)
  · refine zV.eq (show (bI ((1 ≤ a ∧ a ≤ 64) ∧ (1 ≤ b ∧ b ≤ 64)) : Int) = 1 from bI_t c1) ?_
    refine zV_jif_eq 23 dX4_copyPrice_6 rfl ⟨by decide, by decide⟩ (fun c_ => absurd c_ (by decide)) (fun _ => ?_)
    refine zV_iload_n 3 dX4_copyPrice_9 rfl rfl ?_
    refine zV_iconst (n := 0) dX4_copyPrice_10 ?_
    refine zV_jbipush dX4_copyPrice_11 (by decide) ?_
    refine zc_S (y' := zX4_isIn) (as := [.int (jI (c)), .int (jI (0)), .int (jI (64))]) (rest := [.ref o]) bX4_isIn dX4_copyPrice_13 q2012 q2013 (c_X4_isIn (c) (0) (64) hc ⟨by decide, by decide⟩ ⟨by decide, by decide⟩) rfl rfl (by decide) (Nat.le_of_ble_eq_true rfl) (zk_J1 ?_)
    by_cases c2 : 0 ≤ c ∧ c ≤ 64
    · refine zV.eq (show (bI (0 ≤ c ∧ c ≤ 64) : Int) = 1 from bI_t c2) ?_
      refine zV_jif_eq 23 dX4_copyPrice_16 rfl ⟨by decide, by decide⟩ (fun c_ => absurd c_ (by decide)) (fun _ => ?_)
      refine zV_iconst (n := 1) dX4_copyPrice_19 ?_
      refine zV_goto 24 dX4_copyPrice_20 rfl ?_
      refine zV.eq (show (1 : Int) = bI (((1 ≤ a ∧ a ≤ 64) ∧ (1 ≤ b ∧ b ≤ 64)) ∧ (0 ≤ c ∧ c ≤ 64)) from (bI_t ⟨c1, c2⟩).symm) ?_
      refine zc_V (y' := zX4_mayOne) (as := [.int (jI (bI (((1 ≤ a ∧ a ≤ 64) ∧ (1 ≤ b ∧ b ≤ 64)) ∧ (0 ≤ c ∧ c ≤ 64))))]) (rest := []) (ci := 3) (q := (RX4, TX4, 27)) bX4_mayOne dX4_copyPrice_24 q2141 q2143 qs69 (md_k hM) rfl (c_X4_mayOne hM (((1 ≤ a ∧ a ≤ 64) ∧ (1 ≤ b ∧ b ≤ 64)) ∧ (0 ≤ c ∧ c ≤ 64))) rfl rfl (by decide) (Nat.le_of_ble_eq_true rfl) (by decide) (zk_I (fun z h1 ⟨ez, i0⟩ _ => ?_))
      subst ez
      have hM1 : MdL h1 o := hM.ch i0.1
      have hP1 : gI h1 (o + 1) = P := (i0.1.row (by simp)).trans hP
      by_cases cm : ((1 ≤ a ∧ a ≤ 64) ∧ (1 ≤ b ∧ b ≤ 64)) ∧ (0 ≤ c ∧ c ≤ 64)
      · refine zV.eq (show (bI (((1 ≤ a ∧ a ≤ 64) ∧ (1 ≤ b ∧ b ≤ 64)) ∧ (0 ≤ c ∧ c ≤ 64)) : Int) = 1 from bI_t cm) ?_
        refine zV_jif_eq 40 dX4_copyPrice_27 rfl ⟨by decide, by decide⟩ (fun c_ => absurd c_ (by decide)) (fun _ => ?_)
        obtain ⟨n, rfl⟩ : ∃ n_ : Nat, a = (n_ : Int) := ⟨(a).toNat, by omega⟩
        obtain ⟨q, rfl⟩ : ∃ n_ : Nat, b = (n_ : Int) := ⟨(b).toNat, by omega⟩
        obtain ⟨l, rfl⟩ : ∃ n_ : Nat, c = (n_ : Int) := ⟨(c).toNat, by omega⟩
        refine zV_aload_n 0 dX4_copyPrice_30 rfl rfl (Or.inr ⟨_, rfl⟩) ?_
        refine zV_iload_n 1 dX4_copyPrice_31 rfl rfl ?_
        refine zV_iload_n 2 dX4_copyPrice_32 rfl rfl ?_
        refine zV_iload_n 3 dX4_copyPrice_33 rfl rfl ?_
        refine zc_V (y' := zX4_copyCost) (as := [.int (jI (((n : Nat) : Int))), .int (jI (((q : Nat) : Int))), .int (jI (((l : Nat) : Int)))]) (rest := []) (ci := 3) (q := (RX4, TX4, 27)) bX4_copyCost dX4_copyPrice_34 q2299 q2301 qs96 (md_k hM1) rfl (c_X4_copyCost hM1 hP1 n q l (by omega) (by omega) (by omega)) rfl rfl (by decide) (Nat.le_of_ble_eq_true rfl) (by decide) (zk_J1 ?_)
        refine zV_goto 41 dX4_copyPrice_37 rfl ?_
        exact zV_ireturn dX4_copyPrice_41 rfl rfl ⟨_, rfl, i0.go0, fun _ => rfl⟩
      · exact absurd ⟨c1, c2⟩ cm
    · refine zV.eq (show (bI (0 ≤ c ∧ c ≤ 64) : Int) = 0 from bI_f c2) ?_
      refine zV_jif_eq 23 dX4_copyPrice_16 rfl ⟨by decide, by decide⟩ (fun _ => ?_) (fun c_ => absurd c_ (by decide))
      refine zV_iconst (n := 0) dX4_copyPrice_23 ?_
      refine zV.eq (show (0 : Int) = bI (((1 ≤ a ∧ a ≤ 64) ∧ (1 ≤ b ∧ b ≤ 64)) ∧ (0 ≤ c ∧ c ≤ 64)) from (bI_f (fun z => c2 z.2)).symm) ?_
      refine zc_V (y' := zX4_mayOne) (as := [.int (jI (bI (((1 ≤ a ∧ a ≤ 64) ∧ (1 ≤ b ∧ b ≤ 64)) ∧ (0 ≤ c ∧ c ≤ 64))))]) (rest := []) (ci := 3) (q := (RX4, TX4, 27)) bX4_mayOne dX4_copyPrice_24 q2141 q2143 qs69 (md_k hM) rfl (c_X4_mayOne hM (((1 ≤ a ∧ a ≤ 64) ∧ (1 ≤ b ∧ b ≤ 64)) ∧ (0 ≤ c ∧ c ≤ 64))) rfl rfl (by decide) (Nat.le_of_ble_eq_true rfl) (by decide) (zk_I (fun z h1 ⟨ez, i0⟩ _ => ?_))
      subst ez
      have hM1 : MdL h1 o := hM.ch i0.1
      have hP1 : gI h1 (o + 1) = P := (i0.1.row (by simp)).trans hP
      by_cases cm : ((1 ≤ a ∧ a ≤ 64) ∧ (1 ≤ b ∧ b ≤ 64)) ∧ (0 ≤ c ∧ c ≤ 64)
      · exact absurd cm.2 c2
      · refine zV.eq (show (bI (((1 ≤ a ∧ a ≤ 64) ∧ (1 ≤ b ∧ b ≤ 64)) ∧ (0 ≤ c ∧ c ≤ 64)) : Int) = 0 from bI_f cm) ?_
        refine zV_jif_eq 40 dX4_copyPrice_27 rfl ⟨by decide, by decide⟩ (fun _ => ?_) (fun c_ => absurd c_ (by decide))
        refine zV_iconst (n := 0) dX4_copyPrice_40 ?_
        exact zV_ireturn dX4_copyPrice_41 rfl rfl ⟨_, rfl, i0.go0, fun e => absurd e (ma1_ne cm)⟩
  · refine zV.eq (show (bI ((1 ≤ a ∧ a ≤ 64) ∧ (1 ≤ b ∧ b ≤ 64)) : Int) = 0 from bI_f c1) ?_
    refine zV_jif_eq 23 dX4_copyPrice_6 rfl ⟨by decide, by decide⟩ (fun _ => ?_) (fun c_ => absurd c_ (by decide))
    refine zV_iconst (n := 0) dX4_copyPrice_23 ?_
    refine zV.eq (show (0 : Int) = bI (((1 ≤ a ∧ a ≤ 64) ∧ (1 ≤ b ∧ b ≤ 64)) ∧ (0 ≤ c ∧ c ≤ 64)) from (bI_f (fun z => c1 z.1)).symm) ?_
    refine zc_V (y' := zX4_mayOne) (as := [.int (jI (bI (((1 ≤ a ∧ a ≤ 64) ∧ (1 ≤ b ∧ b ≤ 64)) ∧ (0 ≤ c ∧ c ≤ 64))))]) (rest := []) (ci := 3) (q := (RX4, TX4, 27)) bX4_mayOne dX4_copyPrice_24 q2141 q2143 qs69 (md_k hM) rfl (c_X4_mayOne hM (((1 ≤ a ∧ a ≤ 64) ∧ (1 ≤ b ∧ b ≤ 64)) ∧ (0 ≤ c ∧ c ≤ 64))) rfl rfl (by decide) (Nat.le_of_ble_eq_true rfl) (by decide) (zk_I (fun z h1 ⟨ez, i0⟩ _ => ?_))
    subst ez
    have hM1 : MdL h1 o := hM.ch i0.1
    have hP1 : gI h1 (o + 1) = P := (i0.1.row (by simp)).trans hP
    by_cases cm : ((1 ≤ a ∧ a ≤ 64) ∧ (1 ≤ b ∧ b ≤ 64)) ∧ (0 ≤ c ∧ c ≤ 64)
    · exact absurd cm.1 c1
    · refine zV.eq (show (bI (((1 ≤ a ∧ a ≤ 64) ∧ (1 ≤ b ∧ b ≤ 64)) ∧ (0 ≤ c ∧ c ≤ 64)) : Int) = 0 from bI_f cm) ?_
      refine zV_jif_eq 40 dX4_copyPrice_27 rfl ⟨by decide, by decide⟩ (fun _ => ?_) (fun c_ => absurd c_ (by decide))
      refine zV_iconst (n := 0) dX4_copyPrice_40 ?_
      exact zV_ireturn dX4_copyPrice_41 rfl rfl ⟨_, rfl, i0.go0, fun e => absurd e (ma1_ne cm)⟩
theorem c_X4_thrown (hM : MdL h o) : zM G zX4_thrown 0 [.ref o] h (zJ h (some (.int (jI (gI h o 0))))) := by
  refine zM.ofV (lv := [(0, .ref o)]) (by decide +kernel) (Nat.le_of_ble_eq_true rfl) rfl ?_
  refine zV_aload_n 0 dX4_thrown_0 rfl rfl (Or.inr ⟨_, rfl⟩) ?_
  refine zV_tgetf (ci := 3) (q := (RX4, TX4, 27)) 0 dX4_thrown_1 q1917 (md_k hM) rfl (by decide) rfl (by decide) ?_
  exact zV_ireturn dX4_thrown_4 rfl rfl ⟨rfl, rfl⟩
end M11
