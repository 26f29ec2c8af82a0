/-! ===== THE MODEL, 7: what lies ahead (printed by a program of gen/) ===== -/
set_option maxRecDepth 100000
section M7
variable {G : zG} {h : zH} {o : Nat} {P : pRow}
theorem c_X4_betters (hM : MdL h o) {F : pRow} (hF : ∀ j, j < 4290 → gI h (o + 8) j = F j) (hb : fB F) (p l r : Nat) (hp : p ≤ 64) (hl : l < 33) (hr : r < 2) (v : Int) (hv : 0 ≤ v ∧ v ≤ 2000000) : zM G zX4_betters 2 [.ref o, .int (jI (p : Int)), .int (jI (l : Int)), .int (jI (r : Int)), .int (jI v)] h (zOkV (fun h1 => zIo [o + 8] h h1 ∧ ∀ j, j < 4290 → gI h1 (o + 8) j = beT F (66 * p + 2 * l + r) v j)) := by
  refine zM.ofV (lv := [(0, .ref o), (1, .int (jI ((p : Int)))), (2, .int (jI ((l : Int)))), (3, .int (jI ((r : Int)))), (4, .int (jI (v)))]) (by decide +kernel) (Nat.le_of_ble_eq_true rfl) rfl ?_
  refine zV_iload_n 1 dX4_betters_0 rfl rfl ?_
  refine zV_iload_n 2 dX4_betters_1 rfl rfl ?_
  refine zV_iload_n 3 dX4_betters_2 rfl rfl ?_
  refine zc_S (y' := zX4_state) (as := [.int (jI ((p : Int))), .int (jI ((l : Int))), .int (jI ((r : Int)))]) (rest := []) bX4_state dX4_betters_3 q2321 q2322 (c_X4_state p l r (by omega)) rfl rfl (by decide) (Nat.le_of_ble_eq_true rfl) (zk_J1 ?_)
  refine zV_istore (lv' := [(0, .ref o), (1, .int (jI ((p : Int)))), (2, .int (jI ((l : Int)))), (3, .int (jI ((r : Int)))), (4, .int (jI (v))), (5, .int (jI (((66 * p + 2 * l + r : Nat) : Int))))]) dX4_betters_6 (by decide) rfl rfl ?_
  refine zV_aload_n 0 dX4_betters_8 rfl rfl (Or.inr ⟨_, rfl⟩) ?_
  refine zV_getf (v := .ref (o + 8)) (ci := 3) (q := (RX4, TX4, 27)) 10 dX4_betters_9 q1927 (md_k hM) rfl (by decide) (congrArg va_rf (md_r_fore hM)) (by decide) ?_
  refine zV_iload dX4_betters_12 rfl ?_
  refine zV_aload_n 0 dX4_betters_14 rfl rfl (Or.inr ⟨_, rfl⟩) ?_
  refine zV_getf (v := .ref (o + 8)) (ci := 3) (q := (RX4, TX4, 27)) 10 dX4_betters_15 q1927 (md_k hM) rfl (by decide) (congrArg va_rf (md_r_fore hM)) (by decide) ?_
  refine zV_iload dX4_betters_18 rfl ?_
  refine zV_tiald (66 * p + 2 * l + r) 4290 dX4_betters_20 (md_k_fore hM) (md_z_fore hM) (by omega) (by omega) (by omega) ?_
  refine zV.eq (show ((zI h (o + 8) (66 * p + 2 * l + r)).toInt : Int) = F (66 * p + 2 * l + r) from hF _ (by omega)) ?_
  have hb1 := hb (66 * p + 2 * l + r)
  refine zV_iload dX4_betters_21 rfl ?_
  refine zc_S (y' := zX4_lesser) (as := [.int (jI (F (66 * p + 2 * l + r))), .int (jI (v))]) (rest := [.int (jI (((66 * p + 2 * l + r : Nat) : Int))), .ref (o + 8)]) bX4_lesser dX4_betters_23 q2183 q2184 (c_X4_lesser _ v ⟨by omega, by omega⟩ ⟨by omega, by omega⟩) rfl rfl (by decide) (Nat.le_of_ble_eq_true rfl) (zk_J1 ?_)
  refine zV_jiast (x := jI (min (F (66 * p + 2 * l + r)) v)) (66 * p + 2 * l + r) 4290 dX4_betters_26 (md_k_fore hM) (Nat.le_trans (md_ge hM) (by omega)) (md_z_fore hM) (by omega) (by omega) (by omega) ?_
  refine zV_return dX4_betters_27 rfl ⟨rfl, zIo.rf.put (by simp), fun j hj => ?_⟩
  rw [gI_put ⟨by omega, by omega⟩]
  unfold beT
  by_cases hj2 : j = 66 * p + 2 * l + r
  · rw [if_pos ⟨rfl, hj2⟩, if_pos hj2]
  · rw [if_neg (fun z => hj2 z.2), if_neg hj2]; exact hF j hj
theorem c_X4_goesOnFrom (hM : MdL h o) (hP : gI h (o + 1) = P) (hw : pWf P) (hL : LC P (gI h (o + 6))) {F : pRow} (hF : ∀ j, j < 4290 → gI h (o + 8) j = F j) (hb : fB F) (p l r : Nat) (hp : (p : Int) < P 0) (hl : l < 33) (hr : r < 2) : zM G zX4_goesOnFrom 3 [.ref o, .int (jI (p : Int)), .int (jI (l : Int)), .int (jI (r : Int))] h (zOkV (fun h1 => zIo [o + 8] h h1 ∧ ∀ j, j < 4290 → gI h1 (o + 8) j = gOn P p l r F j)) := by
  obtain ⟨w0, w0b, w1, w1b, w2, w2b, w3, w3b, w4, w4b, w5, w5b, wp, wl, wn⟩ := id hw
  have hlg : ∀ d, lg P p d ≤ 12 := fun d => by have := lg_le P p d; omega
  refine zM.ofV (lv := [(0, .ref o), (1, .int (jI ((p : Int)))), (2, .int (jI ((l : Int)))), (3, .int (jI ((r : Int))))]) (by decide +kernel) (Nat.le_of_ble_eq_true rfl) rfl ?_
  refine zV_aload_n 0 dX4_goesOnFrom_0 rfl rfl (Or.inr ⟨_, rfl⟩) ?_
  refine zV_getf (v := .ref (o + 8)) (ci := 3) (q := (RX4, TX4, 27)) 10 dX4_goesOnFrom_1 q1927 (md_k hM) rfl (by decide) (congrArg va_rf (md_r_fore hM)) (by decide) ?_
  refine zV_iload_n 1 dX4_goesOnFrom_4 rfl rfl ?_
  refine zV_iload_n 2 dX4_goesOnFrom_5 rfl rfl ?_
  refine zV_iload_n 3 dX4_goesOnFrom_6 rfl rfl ?_
  refine zc_S (y' := zX4_state) (as := [.int (jI ((p : Int))), .int (jI ((l : Int))), .int (jI ((r : Int)))]) (rest := [.ref (o + 8)]) bX4_state dX4_goesOnFrom_7 q2321 q2322 (c_X4_state p l r (by omega)) rfl rfl (by decide) (Nat.le_of_ble_eq_true rfl) (zk_J1 ?_)
  refine zV_tiald (66 * p + 2 * l + r) 4290 dX4_goesOnFrom_10 (md_k_fore hM) (md_z_fore hM) (by omega) (by omega) (by omega) ?_
  refine zV.eq (show ((zI h (o + 8) (66 * p + 2 * l + r)).toInt : Int) = F (66 * p + 2 * l + r) from hF _ (by omega)) ?_
  have hb1 := hb (66 * p + 2 * l + r)
  have hgO : gOn P p l r F = if F (66 * p + 2 * l + r) = 1000000 then F else fU (fun d X => gOi P p l d (F (66 * p + 2 * l + r)) X) 32 1 (beT F (66 * (p + 1) + 2 * l + 1) (F (66 * p + 2 * l + r) + lC P p r)) := rfl
  rw [hgO]
  generalize F (66 * p + 2 * l + r) = had at hb1 ⊢
  refine zV_istore (lv' := [(0, .ref o), (1, .int (jI ((p : Int)))), (2, .int (jI ((l : Int)))), (3, .int (jI ((r : Int)))), (4, .int (jI (had)))]) dX4_goesOnFrom_11 (by decide) rfl rfl ?_
  refine zV_iload dX4_goesOnFrom_13 rfl ?_
  refine zV_jldc (1000000) dX4_goesOnFrom_15 q2332 (by decide) ?_
  refine zV_jcmp_ne 21 dX4_goesOnFrom_17 rfl ⟨by omega, by omega⟩ ⟨by decide, by decide⟩ (fun c1 => ?_) (fun c1 => ?_)
  · rw [if_neg (by omega)]
    refine zV_aload_n 0 dX4_goesOnFrom_21 rfl rfl (Or.inr ⟨_, rfl⟩) ?_
    refine zV_iload_n 1 dX4_goesOnFrom_22 rfl rfl ?_
    refine zV_iconst (n := 1) dX4_goesOnFrom_23 ?_
    refine zV_jadd dX4_goesOnFrom_24 ?_
    refine zV.eq (show ((p : Int) + 1 : Int) = ((p + 1 : Nat) : Int) from by omega) ?_
    refine zV_iload_n 2 dX4_goesOnFrom_25 rfl rfl ?_
    refine zV_iconst (n := 1) dX4_goesOnFrom_26 ?_
    refine zV_iload dX4_goesOnFrom_27 rfl ?_
    refine zV_aload_n 0 dX4_goesOnFrom_29 rfl rfl (Or.inr ⟨_, rfl⟩) ?_
    refine zV_iload_n 1 dX4_goesOnFrom_30 rfl rfl ?_
    refine zV_iload_n 3 dX4_goesOnFrom_31 rfl rfl ?_
    have hlc := lC_b hw hp r
    refine zc_V (y' := zX4_literalCost) (as := [.int (jI ((p : Int))), .int (jI ((r : Int)))]) (rest := [.int (jI (had)), .int (jI (1)), .int (jI ((l : Int))), .int (jI (((p + 1 : Nat) : Int))), .ref o]) (ci := 3) (q := (RX4, TX4, 27)) bX4_literalCost dX4_goesOnFrom_32 q2333 q2335 qs101 (md_k hM) rfl (c_X4_literalCost hM hP hw p r hp hr) rfl rfl (by decide) (Nat.le_of_ble_eq_true rfl) (by decide) (zk_J1 ?_)
    refine zV_jadd dX4_goesOnFrom_35 ?_
    refine zc_V (y' := zX4_betters) (as := [.int (jI (((p + 1 : Nat) : Int))), .int (jI ((l : Int))), .int (jI (1)), .int (jI (had + (lC P p r)))]) (rest := []) (ci := 3) (q := (RX4, TX4, 27)) bX4_betters dX4_goesOnFrom_36 q2429 q2431 qs120 (md_k hM) rfl (c_X4_betters hM hF hb (p + 1) l 1 (by omega) hl (by omega) (had + lC P p r) ⟨by omega, by omega⟩) rfl rfl (by decide) (Nat.le_of_ble_eq_true rfl) (by decide) (zk_V (fun h0 ⟨i0, f0⟩ _ => ?_))
    have hb0 : fB (beT F (66 * (p + 1) + 2 * l + 1) (had + lC P p r)) := beT_b hb (by omega)
    refine zV_iconst (n := 1) dX4_goesOnFrom_39 ?_
    refine zV_istore (lv' := [(0, .ref o), (1, .int (jI ((p : Int)))), (2, .int (jI ((l : Int)))), (3, .int (jI ((r : Int)))), (4, .int (jI (had))), (5, .int (jI (1)))]) dX4_goesOnFrom_40 (by decide) rfl rfl ?_
    have key : ∀ f d : Nat, ∀ g : zH, ∀ X : pRow, d + f = 33 → 1 ≤ d → zIo [o + 8] h g → (∀ j, j < 4290 → gI g (o + 8) j = X j) → fB X → zV G zX4_goesOnFrom 3 42 [(0, .ref o), (1, .int (jI ((p : Int)))), (2, .int (jI ((l : Int)))), (3, .int (jI ((r : Int)))), (4, .int (jI (had))), (5, .int (jI (((d : Nat) : Int))))] [] g (zOkV (fun h1 => zIo [o + 8] h h1 ∧ ∀ j, j < 4290 → gI h1 (o + 8) j = fU (fun d X => gOi P p l d had X) f d (X) j)) := by
      intro f
      induction f with
      | zero =>
        intro d g X h1 h2 i1 i2 i3
        have hM2 : MdL g o := hM.io i1
        have hP2 : gI g (o + 1) = P := (i1.row (by simp)).trans hP
        have hL2 : LC P (gI g (o + 6)) := by rw [i1.row (by simp)]; exact hL
        refine zV_iload dX4_goesOnFrom_42 rfl ?_
        refine zV_jbipush dX4_goesOnFrom_44 (by decide) ?_
        refine zV_jcmp_ge 103 dX4_goesOnFrom_46 rfl ⟨by omega, by omega⟩ ⟨by decide, by decide⟩ (fun c2 => ?_) (fun c_ => absurd c_ (by omega))
        exact zV_return dX4_goesOnFrom_103 rfl ⟨rfl, i1, i2⟩
      | succ f ih =>
        intro d g X h1 h2 i1 i2 i3
        have hM2 : MdL g o := hM.io i1
        have hP2 : gI g (o + 1) = P := (i1.row (by simp)).trans hP
        have hL2 : LC P (gI g (o + 6)) := by rw [i1.row (by simp)]; exact hL
        refine zV_iload dX4_goesOnFrom_42 rfl ?_
        refine zV_jbipush dX4_goesOnFrom_44 (by decide) ?_
        refine zV_jcmp_ge 103 dX4_goesOnFrom_46 rfl ⟨by omega, by omega⟩ ⟨by decide, by decide⟩ (fun c_ => absurd c_ (by omega)) (fun c2 => ?_)
        refine zV_aload_n 0 dX4_goesOnFrom_49 rfl rfl (Or.inr ⟨_, rfl⟩) ?_
        refine zV_iconst (n := 2) dX4_goesOnFrom_50 ?_
        refine zc_V (y' := zX4_set) (as := [.int (jI (2))]) (rest := []) (ci := 3) (q := (RX4, TX4, 27)) bX4_set dX4_goesOnFrom_51 q2157 q2159 qs73 (md_k hM2) rfl (c_X4_set hM2 hP2 2 (by omega)) rfl rfl (by decide) (Nat.le_of_ble_eq_true rfl) (by decide) (zk_J1 ?_)
        refine zV.eq (show (P (2 + 1) : Int) = P 3 from rfl) ?_
        refine zV.eq (show (P 3 : Int) = (((P 3).toNat : Nat) : Int) from by omega) ?_
        refine zV_istore (lv' := [(0, .ref o), (1, .int (jI ((p : Int)))), (2, .int (jI ((l : Int)))), (3, .int (jI ((r : Int)))), (4, .int (jI (had))), (5, .int (jI (((d : Nat) : Int)))), (6, .int (jI ((((P 3).toNat : Nat) : Int))))]) dX4_goesOnFrom_54 (by decide) rfl rfl ?_
        have hlp := lg_p (P := P) (p := p) (d := d)
        have hl12 := hlg d
        have key2 : ∀ f2 n : Nat, ∀ g : zH, ∀ X : pRow, f2 = lg P p d + 1 - n → (P 3).toNat ≤ n → n ≤ 13 → zIo [o + 8] h g → (∀ j, j < 4290 → gI g (o + 8) j = X j) → fB X → zV G zX4_goesOnFrom 3 56 [(0, .ref o), (1, .int (jI ((p : Int)))), (2, .int (jI ((l : Int)))), (3, .int (jI ((r : Int)))), (4, .int (jI (had))), (5, .int (jI (((d : Nat) : Int)))), (6, .int (jI (((n : Nat) : Int))))] [] g (zOkV (fun h1 => zIo [o + 8] h h1 ∧ ∀ j, j < 4290 → gI h1 (o + 8) j = fU (fun d X => gOi P p l d had X) f (d + 1) (fU (fun n F => beT F (66 * (p + n) + 2 * d) (had + cC P n d l)) f2 n X) j)) := by
          intro f2
          induction f2 with
          | zero =>
            intro n g X h5 h6 h7 i1 i2 i3
            have hM2 : MdL g o := hM.io i1
            have hP2 : gI g (o + 1) = P := (i1.row (by simp)).trans hP
            have hL2 : LC P (gI g (o + 6)) := by rw [i1.row (by simp)]; exact hL
            refine zV_iload dX4_goesOnFrom_56 rfl ?_
            refine zV_aload_n 0 dX4_goesOnFrom_58 rfl rfl (Or.inr ⟨_, rfl⟩) ?_
            refine zV_iload_n 1 dX4_goesOnFrom_59 rfl rfl ?_
            refine zV_iload dX4_goesOnFrom_60 rfl ?_
            refine zc_V (y' := zX4_longestAt) (as := [.int (jI ((p : Int))), .int (jI (((d : Nat) : Int)))]) (rest := [.int (jI (((n : Nat) : Int)))]) (ci := 3) (q := (RX4, TX4, 27)) bX4_longestAt dX4_goesOnFrom_62 q2210 q2212 qs84 (md_k hM2) rfl (c_X4_longestAt hM2 p (d) (by omega) (by omega)) rfl rfl (by decide) (Nat.le_of_ble_eq_true rfl) (by decide) (zk_J1 ?_)
            refine zV.eq (show (gI g (o + 6) (33 * p + d) : Int) = ((lg P p d : Nat) : Int) from hL2 p _ (by omega) (by omega) (by omega)) ?_
            refine zV_jcmp_gt 97 dX4_goesOnFrom_65 rfl ⟨by omega, by omega⟩ ⟨by omega, by omega⟩ (fun c3 => ?_) (fun c_ => absurd c_ (by omega))
            refine zV_jinc (lv' := [(0, .ref o), (1, .int (jI ((p : Int)))), (2, .int (jI ((l : Int)))), (3, .int (jI ((r : Int)))), (4, .int (jI (had))), (5, .int (jI (((d : Nat) : Int) + 1))), (6, .int (jI (((n : Nat) : Int))))]) dX4_goesOnFrom_97 rfl (by decide) rfl rfl ?_
            refine zV_goto 42 dX4_goesOnFrom_100 rfl ?_
            refine zV.loc (lv' := [(0, .ref o), (1, .int (jI ((p : Int)))), (2, .int (jI ((l : Int)))), (3, .int (jI ((r : Int)))), (4, .int (jI (had))), (5, .int (jI (((d : Nat) : Int) + 1)))]) (fun q_ hq_ => (List.Sublist.cons₂ _ (List.Sublist.cons₂ _ (List.Sublist.cons₂ _ (List.Sublist.cons₂ _ (List.Sublist.cons₂ _ (List.Sublist.cons₂ _ (List.Sublist.cons _ List.Sublist.slnil))))))).subset hq_) ?_
            rw [show (((d : Nat) : Int) + 1 : Int) = ((d + 1 : Nat) : Int) from by omega]
            exact ih (d + 1) g X (by omega) (by omega) i1 i2 i3
          | succ f2 ih2 =>
            intro n g X h5 h6 h7 i1 i2 i3
            have hM2 : MdL g o := hM.io i1
            have hP2 : gI g (o + 1) = P := (i1.row (by simp)).trans hP
            have hL2 : LC P (gI g (o + 6)) := by rw [i1.row (by simp)]; exact hL
            refine zV_iload dX4_goesOnFrom_56 rfl ?_
            refine zV_aload_n 0 dX4_goesOnFrom_58 rfl rfl (Or.inr ⟨_, rfl⟩) ?_
            refine zV_iload_n 1 dX4_goesOnFrom_59 rfl rfl ?_
            refine zV_iload dX4_goesOnFrom_60 rfl ?_
            refine zc_V (y' := zX4_longestAt) (as := [.int (jI ((p : Int))), .int (jI (((d : Nat) : Int)))]) (rest := [.int (jI (((n : Nat) : Int)))]) (ci := 3) (q := (RX4, TX4, 27)) bX4_longestAt dX4_goesOnFrom_62 q2210 q2212 qs84 (md_k hM2) rfl (c_X4_longestAt hM2 p (d) (by omega) (by omega)) rfl rfl (by decide) (Nat.le_of_ble_eq_true rfl) (by decide) (zk_J1 ?_)
            refine zV.eq (show (gI g (o + 6) (33 * p + d) : Int) = ((lg P p d : Nat) : Int) from hL2 p _ (by omega) (by omega) (by omega)) ?_
            refine zV_jcmp_gt 97 dX4_goesOnFrom_65 rfl ⟨by omega, by omega⟩ ⟨by omega, by omega⟩ (fun c_ => absurd c_ (by omega)) (fun c3 => ?_)
            refine zV_aload_n 0 dX4_goesOnFrom_68 rfl rfl (Or.inr ⟨_, rfl⟩) ?_
            refine zV_iload_n 1 dX4_goesOnFrom_69 rfl rfl ?_
            refine zV_iload dX4_goesOnFrom_70 rfl ?_
            refine zV_jadd dX4_goesOnFrom_72 ?_
            refine zV.eq (show ((p : Int) + ((n : Nat) : Int) : Int) = ((p + n : Nat) : Int) from by omega) ?_
            refine zV_iload dX4_goesOnFrom_73 rfl ?_
            refine zV_iconst (n := 0) dX4_goesOnFrom_75 ?_
            refine zV_iload dX4_goesOnFrom_76 rfl ?_
            refine zV_aload_n 0 dX4_goesOnFrom_78 rfl rfl (Or.inr ⟨_, rfl⟩) ?_
            refine zV_iload dX4_goesOnFrom_79 rfl ?_
            refine zV_iload dX4_goesOnFrom_81 rfl ?_
            refine zV_iload_n 2 dX4_goesOnFrom_83 rfl rfl ?_
            have hc := cC_b hw n d l
            refine zc_V (y' := zX4_copyCost) (as := [.int (jI (((n : Nat) : Int))), .int (jI (((d : Nat) : Int))), .int (jI ((l : Int)))]) (rest := [.int (jI (had)), .int (jI (0)), .int (jI (((d : Nat) : Int))), .int (jI (((p + n : Nat) : Int))), .ref o]) (ci := 3) (q := (RX4, TX4, 27)) bX4_copyCost dX4_goesOnFrom_84 q2299 q2301 qs96 (md_k hM2) rfl (c_X4_copyCost hM2 hP2 n d l (by omega) (by omega) (by omega)) rfl rfl (by decide) (Nat.le_of_ble_eq_true rfl) (by decide) (zk_J1 ?_)
            refine zV_jadd dX4_goesOnFrom_87 ?_
            refine zc_V (y' := zX4_betters) (as := [.int (jI (((p + n : Nat) : Int))), .int (jI (((d : Nat) : Int))), .int (jI (0)), .int (jI (had + (cC P n d l)))]) (rest := []) (ci := 3) (q := (RX4, TX4, 27)) bX4_betters dX4_goesOnFrom_88 q2429 q2431 qs120 (md_k hM2) rfl (c_X4_betters hM2 i2 i3 (p + n) d 0 (by omega) (by omega) (by omega) (had + cC P n d l) ⟨by omega, by omega⟩) rfl rfl (by decide) (Nat.le_of_ble_eq_true rfl) (by decide) (zk_V (fun h3 ⟨j1, j2⟩ _ => ?_))
            refine zV_jinc (lv' := [(0, .ref o), (1, .int (jI ((p : Int)))), (2, .int (jI ((l : Int)))), (3, .int (jI ((r : Int)))), (4, .int (jI (had))), (5, .int (jI (((d : Nat) : Int)))), (6, .int (jI (((n : Nat) : Int) + 1)))]) dX4_goesOnFrom_91 rfl (by decide) rfl rfl ?_
            refine zV_goto 56 dX4_goesOnFrom_94 rfl ?_
            rw [show (((n : Nat) : Int) + 1 : Int) = ((n + 1 : Nat) : Int) from by omega]
            exact ih2 (n + 1) h3 _ (by omega) (by omega) (by omega) (i1.tr j1) j2 (beT_b i3 (by omega))
        exact key2 _ (P 3).toNat g X rfl (Nat.le_refl _) (by omega) i1 i2 i3
    exact key 32 1 h0 _ (by omega) (by omega) i0 f0 hb0
  · exact zV_return dX4_goesOnFrom_20 rfl ⟨rfl, zIo.rf, fun j hj => by rw [if_pos (by omega)]; exact hF j hj⟩
theorem c_X4_laysFore (hM : MdL h o) (hP : gI h (o + 1) = P) (hw : pWf P) (hL : LC P (gI h (o + 6))) : zM G zX4_laysFore 4 [.ref o] h (zOkV (fun h1 => zIo [o + 8] h h1 ∧ ∀ j, j < 4290 → gI h1 (o + 8) j = fo P j)) := by
  obtain ⟨w0, w0b, w1, w1b, w2, w2b, w3, w3b, w4, w4b, w5, w5b, wp, wl, wn⟩ := id hw
  refine zM.ofV (lv := [(0, .ref o)]) (by decide +kernel) (Nat.le_of_ble_eq_true rfl) rfl ?_
  refine zV_iconst (n := 0) dX4_laysFore_0 ?_
  refine zV_istore_n (lv' := [(0, .ref o), (1, .int (jI (0)))]) 1 dX4_laysFore_1 rfl (by decide) rfl rfl ?_
  have key : ∀ f p : Nat, ∀ g : zH, ∀ X : pRow, (p : Int) + f = P 0 → zIo [o + 8] h g → (∀ j, j < 4290 → gI g (o + 8) j = X j) → fB X → zV G zX4_laysFore 4 39 [(0, .ref o), (1, .int (jI (((p : Nat) : Int))))] [] g (zOkV (fun h1 => zIo [o + 8] h h1 ∧ ∀ j, j < 4290 → gI h1 (o + 8) j = fU (fun p X => gOl P p X) f p X j)) := by
    intro f
    induction f with
    | zero =>
      intro p g X h1 i1 i2 i3
      have hM2 : MdL g o := hM.io i1
      have hP2 : gI g (o + 1) = P := (i1.row (by simp)).trans hP
      have hL2 : LC P (gI g (o + 6)) := by rw [i1.row (by simp)]; exact hL
      refine zV_iload_n 1 dX4_laysFore_39 rfl rfl ?_
      refine zV_aload_n 0 dX4_laysFore_40 rfl rfl (Or.inr ⟨_, rfl⟩) ?_
      refine zc_V (y' := zX4_many) (as := []) (rest := [.int (jI (((p : Nat) : Int)))]) (ci := 3) (q := (RX4, TX4, 27)) bX4_many dX4_laysFore_41 q2042 q2044 qs50 (md_k hM2) rfl (c_X4_many hM2 hP2) rfl rfl (by decide) (Nat.le_of_ble_eq_true rfl) (by decide) (zk_J1 ?_)
      refine zV_jcmp_ge 81 dX4_laysFore_44 rfl ⟨by omega, by omega⟩ (by rw [← hP2]; exact jr_toInt _) (fun c2 => ?_) (fun c_ => absurd c_ (by omega))
      exact zV_return dX4_laysFore_81 rfl ⟨rfl, i1, i2⟩
    | succ f ih =>
      intro p g X h1 i1 i2 i3
      have hM2 : MdL g o := hM.io i1
      have hP2 : gI g (o + 1) = P := (i1.row (by simp)).trans hP
      have hL2 : LC P (gI g (o + 6)) := by rw [i1.row (by simp)]; exact hL
      refine zV_iload_n 1 dX4_laysFore_39 rfl rfl ?_
      refine zV_aload_n 0 dX4_laysFore_40 rfl rfl (Or.inr ⟨_, rfl⟩) ?_
      refine zc_V (y' := zX4_many) (as := []) (rest := [.int (jI (((p : Nat) : Int)))]) (ci := 3) (q := (RX4, TX4, 27)) bX4_many dX4_laysFore_41 q2042 q2044 qs50 (md_k hM2) rfl (c_X4_many hM2 hP2) rfl rfl (by decide) (Nat.le_of_ble_eq_true rfl) (by decide) (zk_J1 ?_)
      refine zV_jcmp_ge 81 dX4_laysFore_44 rfl ⟨by omega, by omega⟩ (by rw [← hP2]; exact jr_toInt _) (fun c_ => absurd c_ (by omega)) (fun c2 => ?_)
      refine zV_iconst (n := 0) dX4_laysFore_47 ?_
      refine zV_istore_n (lv' := [(0, .ref o), (1, .int (jI (((p : Nat) : Int)))), (2, .int (jI (0)))]) 2 dX4_laysFore_48 rfl (by decide) rfl rfl ?_
      have key2 : ∀ f2 l : Nat, ∀ g : zH, ∀ X : pRow, l + f2 = 33 → zIo [o + 8] h g → (∀ j, j < 4290 → gI g (o + 8) j = X j) → fB X → zV G zX4_laysFore 4 49 [(0, .ref o), (1, .int (jI (((p : Nat) : Int)))), (2, .int (jI (((l : Nat) : Int))))] [] g (zOkV (fun h1 => zIo [o + 8] h h1 ∧ ∀ j, j < 4290 → gI h1 (o + 8) j = fU (fun p X => gOl P p X) f (p + 1) (fU (fun l X => gOn P p l 1 (gOn P p l 0 X)) f2 l X) j)) := by
        intro f2
        induction f2 with
        | zero =>
          intro l g X h5 i1 i2 i3
          have hM2 : MdL g o := hM.io i1
          have hP2 : gI g (o + 1) = P := (i1.row (by simp)).trans hP
          have hL2 : LC P (gI g (o + 6)) := by rw [i1.row (by simp)]; exact hL
          refine zV_iload_n 2 dX4_laysFore_49 rfl rfl ?_
          refine zV_jbipush dX4_laysFore_50 (by decide) ?_
          refine zV_jcmp_ge 75 dX4_laysFore_52 rfl ⟨by omega, by omega⟩ ⟨by decide, by decide⟩ (fun c3 => ?_) (fun c_ => absurd c_ (by omega))
          refine zV_jinc (lv' := [(0, .ref o), (1, .int (jI (((p : Nat) : Int) + 1))), (2, .int (jI (((l : Nat) : Int))))]) dX4_laysFore_75 rfl (by decide) rfl rfl ?_
          refine zV_goto 39 dX4_laysFore_78 rfl ?_
          refine zV.loc (lv' := [(0, .ref o), (1, .int (jI (((p : Nat) : Int) + 1)))]) (fun q_ hq_ => (List.Sublist.cons₂ _ (List.Sublist.cons₂ _ (List.Sublist.cons _ List.Sublist.slnil))).subset hq_) ?_
          rw [show (((p : Nat) : Int) + 1 : Int) = ((p + 1 : Nat) : Int) from by omega]
          exact ih (p + 1) g X (by omega) i1 i2 i3
        | succ f2 ih2 =>
          intro l g X h5 i1 i2 i3
          have hM2 : MdL g o := hM.io i1
          have hP2 : gI g (o + 1) = P := (i1.row (by simp)).trans hP
          have hL2 : LC P (gI g (o + 6)) := by rw [i1.row (by simp)]; exact hL
          refine zV_iload_n 2 dX4_laysFore_49 rfl rfl ?_
          refine zV_jbipush dX4_laysFore_50 (by decide) ?_
          refine zV_jcmp_ge 75 dX4_laysFore_52 rfl ⟨by omega, by omega⟩ ⟨by decide, by decide⟩ (fun c_ => absurd c_ (by omega)) (fun c3 => ?_)
          refine zV_aload_n 0 dX4_laysFore_55 rfl rfl (Or.inr ⟨_, rfl⟩) ?_
          refine zV_iload_n 1 dX4_laysFore_56 rfl rfl ?_
          refine zV_iload_n 2 dX4_laysFore_57 rfl rfl ?_
          refine zV_iconst (n := 0) dX4_laysFore_58 ?_
          refine zc_V (y' := zX4_goesOnFrom) (as := [.int (jI (((p : Nat) : Int))), .int (jI (((l : Nat) : Int))), .int (jI (0))]) (rest := []) (ci := 3) (q := (RX4, TX4, 27)) bX4_goesOnFrom dX4_laysFore_59 q2425 q2427 qs119 (md_k hM2) rfl (c_X4_goesOnFrom hM2 hP2 hw hL2 i2 i3 p l 0 (by omega) (by omega) (by omega)) rfl rfl (by decide) (Nat.le_of_ble_eq_true rfl) (by decide) (zk_V (fun h3 ⟨j1, j2⟩ _ => ?_))
          have i4 := i1.tr j1
          have hM3 : MdL h3 o := hM.io i4
          have hP3 : gI h3 (o + 1) = P := (i4.row (by simp)).trans hP
          have hL3 : LC P (gI h3 (o + 6)) := by rw [i4.row (by simp)]; exact hL
          have hb3 := gOn_b hw (p := p) (l := l) (r := 0) (by omega) i3
          refine zV_aload_n 0 dX4_laysFore_62 rfl rfl (Or.inr ⟨_, rfl⟩) ?_
          refine zV_iload_n 1 dX4_laysFore_63 rfl rfl ?_
          refine zV_iload_n 2 dX4_laysFore_64 rfl rfl ?_
          refine zV_iconst (n := 1) dX4_laysFore_65 ?_
          refine zc_V (y' := zX4_goesOnFrom) (as := [.int (jI (((p : Nat) : Int))), .int (jI (((l : Nat) : Int))), .int (jI (1))]) (rest := []) (ci := 3) (q := (RX4, TX4, 27)) bX4_goesOnFrom dX4_laysFore_66 q2425 q2427 qs119 (md_k hM3) rfl (c_X4_goesOnFrom hM3 hP3 hw hL3 j2 hb3 p l 1 (by omega) (by omega) (by omega)) rfl rfl (by decide) (Nat.le_of_ble_eq_true rfl) (by decide) (zk_V (fun h4 ⟨j3, j4⟩ _ => ?_))
          refine zV_jinc (lv' := [(0, .ref o), (1, .int (jI (((p : Nat) : Int)))), (2, .int (jI (((l : Nat) : Int) + 1)))]) dX4_laysFore_69 rfl (by decide) rfl rfl ?_
          refine zV_goto 49 dX4_laysFore_72 rfl ?_
          rw [show (((l : Nat) : Int) + 1 : Int) = ((l + 1 : Nat) : Int) from by omega]
          exact ih2 (l + 1) h4 _ (by omega) (i4.tr j3) j4 (gOn_b hw (by omega) hb3)
      exact key2 33 0 g X (by omega) i1 i2 i3
  have key1 : ∀ f j : Nat, ∀ g : zH, j + f = 4290 → zIo [o + 8] h g → (∀ i, i < j → gI g (o + 8) i = 1000000) → zV G zX4_laysFore 4 2 [(0, .ref o), (1, .int (jI (((j : Nat) : Int))))] [] g (zOkV (fun h1 => zIo [o + 8] h h1 ∧ ∀ j, j < 4290 → gI h1 (o + 8) j = fo P j)) := by
    intro f
    induction f with
    | zero =>
      intro j g h1 i1 i2
      have hM2 : MdL g o := hM.io i1
      have hP2 : gI g (o + 1) = P := (i1.row (by simp)).trans hP
      have hL2 : LC P (gI g (o + 6)) := by rw [i1.row (by simp)]; exact hL
      refine zV_iload_n 1 dX4_laysFore_2 rfl rfl ?_
      refine zV_aload_n 0 dX4_laysFore_3 rfl rfl (Or.inr ⟨_, rfl⟩) ?_
      refine zV_getf (v := .ref (o + 8)) (ci := 3) (q := (RX4, TX4, 27)) 10 dX4_laysFore_4 q1927 (md_k hM2) rfl (by decide) (congrArg va_rf (md_r_fore hM2)) (by decide) ?_
      refine zV_jalen (t := 0) 4290 dX4_laysFore_7 (md_k_fore hM2) (by decide) (md_z_fore hM2) ?_
      refine zV_jcmp_ge 25 dX4_laysFore_8 rfl ⟨by omega, by omega⟩ ⟨by omega, by omega⟩ (fun c2 => ?_) (fun c_ => absurd c_ (by omega))
      refine zV_aload_n 0 dX4_laysFore_25 rfl rfl (Or.inr ⟨_, rfl⟩) ?_
      refine zV_getf (v := .ref (o + 8)) (ci := 3) (q := (RX4, TX4, 27)) 10 dX4_laysFore_26 q1927 (md_k hM2) rfl (by decide) (congrArg va_rf (md_r_fore hM2)) (by decide) ?_
      refine zV_iconst (n := 0) dX4_laysFore_29 ?_
      refine zV_iconst (n := 0) dX4_laysFore_30 ?_
      refine zV_iconst (n := 0) dX4_laysFore_31 ?_
      refine zc_S (y' := zX4_state) (as := [.int (jI (0)), .int (jI (0)), .int (jI (0))]) (rest := [.ref (o + 8)]) bX4_state dX4_laysFore_32 q2321 q2322 (c_X4_state 0 0 0 (by omega)) rfl rfl (by decide) (Nat.le_of_ble_eq_true rfl) (zk_J1 ?_)
      refine zV.eq (show (((66 * 0 + 2 * 0 + 0 : Nat) : Int) : Int) = ((0 : Nat) : Int) from by omega) ?_
      refine zV_iconst (n := 0) dX4_laysFore_35 ?_
      refine zV_jiast (x := jI (0)) 0 4290 dX4_laysFore_36 (md_k_fore hM2) (Nat.le_trans (md_ge hM2) (by omega)) (md_z_fore hM2) (by omega) (by omega) (by omega) ?_
      refine zV_iconst (n := 0) dX4_laysFore_37 ?_
      refine zV_istore_n (lv' := [(0, .ref o), (1, .int (jI (0)))]) 1 dX4_laysFore_38 rfl (by decide) rfl rfl ?_
      rw [show (0 : Int) = ((0 : Nat) : Int) from by rfl]
      refine key (P 0).toNat 0 _ fF0 (by omega) (i1.put (by simp)) (fun i hi => ?_) fF0_b
      rw [gI_put ⟨by decide, by decide⟩]
      unfold fF0
      by_cases e : i = 0
      · rw [if_pos ⟨rfl, e⟩, if_pos e]; rfl
      · rw [if_neg (fun z => e z.2), if_neg e]; exact i2 i (by omega)
    | succ f ih =>
      intro j g h1 i1 i2
      have hM2 : MdL g o := hM.io i1
      have hP2 : gI g (o + 1) = P := (i1.row (by simp)).trans hP
      have hL2 : LC P (gI g (o + 6)) := by rw [i1.row (by simp)]; exact hL
      refine zV_iload_n 1 dX4_laysFore_2 rfl rfl ?_
      refine zV_aload_n 0 dX4_laysFore_3 rfl rfl (Or.inr ⟨_, rfl⟩) ?_
      refine zV_getf (v := .ref (o + 8)) (ci := 3) (q := (RX4, TX4, 27)) 10 dX4_laysFore_4 q1927 (md_k hM2) rfl (by decide) (congrArg va_rf (md_r_fore hM2)) (by decide) ?_
      refine zV_jalen (t := 0) 4290 dX4_laysFore_7 (md_k_fore hM2) (by decide) (md_z_fore hM2) ?_
      refine zV_jcmp_ge 25 dX4_laysFore_8 rfl ⟨by omega, by omega⟩ ⟨by omega, by omega⟩ (fun c_ => absurd c_ (by omega)) (fun c2 => ?_)
      refine zV_aload_n 0 dX4_laysFore_11 rfl rfl (Or.inr ⟨_, rfl⟩) ?_
      refine zV_getf (v := .ref (o + 8)) (ci := 3) (q := (RX4, TX4, 27)) 10 dX4_laysFore_12 q1927 (md_k hM2) rfl (by decide) (congrArg va_rf (md_r_fore hM2)) (by decide) ?_
      refine zV_iload_n 1 dX4_laysFore_15 rfl rfl ?_
      refine zV_jldc (1000000) dX4_laysFore_16 q2332 (by decide) ?_
      refine zV_jiast (x := jI (1000000)) j 4290 dX4_laysFore_18 (md_k_fore hM2) (Nat.le_trans (md_ge hM2) (by omega)) (md_z_fore hM2) (by omega) (by omega) (by omega) ?_
      refine zV_jinc (lv' := [(0, .ref o), (1, .int (jI (((j : Nat) : Int) + 1)))]) dX4_laysFore_19 rfl (by decide) rfl rfl ?_
      refine zV_goto 2 dX4_laysFore_22 rfl ?_
      rw [show (((j : Nat) : Int) + 1 : Int) = ((j + 1 : Nat) : Int) from by omega]
      refine ih (j + 1) _ (by omega) (i1.put (by simp)) (fun i hi => ?_)
      rw [gI_put ⟨by decide, by decide⟩]
      by_cases e : i = j
      · rw [if_pos ⟨rfl, e⟩]
      · rw [if_neg (fun z => e z.2)]; exact i2 i (by omega)
  exact key1 4290 0 h (by omega) zIo.rf (fun i hi => absurd hi (by omega))
theorem c_X4_leastFore (hM : MdL h o) (hw : pWf P) (hF : ∀ j, j < 4290 → gI h (o + 8) j = fo P j) (p : Nat) (hp : p ≤ 64) : zM G zX4_leastFore 2 [.ref o, .int (jI (p : Int))] h (zJ h (some (.int (jI (leF P p))))) := by
  refine zM.ofV (lv := [(0, .ref o), (1, .int (jI ((p : Int))))]) (by decide +kernel) (Nat.le_of_ble_eq_true rfl) rfl ?_
  refine zV_jldc (1000000) dX4_leastFore_0 q2332 (by decide) ?_
  refine zV_istore_n (lv' := [(0, .ref o), (1, .int (jI ((p : Int)))), (2, .int (jI (1000000)))]) 2 dX4_leastFore_2 rfl (by decide) rfl rfl ?_
  refine zV_iconst (n := 0) dX4_leastFore_3 ?_
  refine zV_istore_n (lv' := [(0, .ref o), (1, .int (jI ((p : Int)))), (2, .int (jI (1000000))), (3, .int (jI (0)))]) 3 dX4_leastFore_4 rfl (by decide) rfl rfl ?_
  have key : ∀ f l : Nat, ∀ a : Int, l + f = 33 → 0 ≤ a → a ≤ 1000000 → zV G zX4_leastFore 2 5 [(0, .ref o), (1, .int (jI ((p : Int)))), (2, .int (jI ((a : Int)))), (3, .int (jI (((l : Nat) : Int))))] [] h (zJ h (some (.int (jI (fU (fun l b => min b (min (fo P (66 * p + 2 * l)) (fo P (66 * p + 2 * l + 1)))) f l a))))) := by
    intro f
    induction f with
    | zero =>
      intro l a h1 h2 h3
      refine zV_iload_n 3 dX4_leastFore_5 rfl rfl ?_
      refine zV_jbipush dX4_leastFore_6 (by decide) ?_
      refine zV_jcmp_ge 47 dX4_leastFore_8 rfl ⟨by omega, by omega⟩ ⟨by decide, by decide⟩ (fun c2 => ?_) (fun c_ => absurd c_ (by omega))
      refine zV_iload_n 2 dX4_leastFore_47 rfl rfl ?_
      exact zV_ireturn dX4_leastFore_48 rfl rfl ⟨rfl, rfl⟩
    | succ f ih =>
      intro l a h1 h2 h3
      refine zV_iload_n 3 dX4_leastFore_5 rfl rfl ?_
      refine zV_jbipush dX4_leastFore_6 (by decide) ?_
      refine zV_jcmp_ge 47 dX4_leastFore_8 rfl ⟨by omega, by omega⟩ ⟨by decide, by decide⟩ (fun c_ => absurd c_ (by omega)) (fun c2 => ?_)
      refine zV_iload_n 2 dX4_leastFore_11 rfl rfl ?_
      refine zV_aload_n 0 dX4_leastFore_12 rfl rfl (Or.inr ⟨_, rfl⟩) ?_
      refine zV_getf (v := .ref (o + 8)) (ci := 3) (q := (RX4, TX4, 27)) 10 dX4_leastFore_13 q1927 (md_k hM) rfl (by decide) (congrArg va_rf (md_r_fore hM)) (by decide) ?_
      refine zV_iload_n 1 dX4_leastFore_16 rfl rfl ?_
      refine zV_iload_n 3 dX4_leastFore_17 rfl rfl ?_
      refine zV_iconst (n := 0) dX4_leastFore_18 ?_
      refine zc_S (y' := zX4_state) (as := [.int (jI ((p : Int))), .int (jI (((l : Nat) : Int))), .int (jI (0))]) (rest := [.ref (o + 8), .int (jI ((a : Int)))]) bX4_state dX4_leastFore_19 q2321 q2322 (c_X4_state p l 0 (by omega)) rfl rfl (by decide) (Nat.le_of_ble_eq_true rfl) (zk_J1 ?_)
      refine zV.eq (show (((66 * p + 2 * l + 0 : Nat) : Int) : Int) = ((66 * p + 2 * l : Nat) : Int) from by omega) ?_
      refine zV_tiald (66 * p + 2 * l) 4290 dX4_leastFore_22 (md_k_fore hM) (md_z_fore hM) (by omega) (by omega) (by omega) ?_
      refine zV.eq (show ((zI h (o + 8) (66 * p + 2 * l)).toInt : Int) = fo P (66 * p + 2 * l) from hF _ (by omega)) ?_
      refine zV_aload_n 0 dX4_leastFore_23 rfl rfl (Or.inr ⟨_, rfl⟩) ?_
      refine zV_getf (v := .ref (o + 8)) (ci := 3) (q := (RX4, TX4, 27)) 10 dX4_leastFore_24 q1927 (md_k hM) rfl (by decide) (congrArg va_rf (md_r_fore hM)) (by decide) ?_
      refine zV_iload_n 1 dX4_leastFore_27 rfl rfl ?_
      refine zV_iload_n 3 dX4_leastFore_28 rfl rfl ?_
      refine zV_iconst (n := 1) dX4_leastFore_29 ?_
      refine zc_S (y' := zX4_state) (as := [.int (jI ((p : Int))), .int (jI (((l : Nat) : Int))), .int (jI (1))]) (rest := [.ref (o + 8), .int (jI (fo P (66 * p + 2 * l))), .int (jI ((a : Int)))]) bX4_state dX4_leastFore_30 q2321 q2322 (c_X4_state p l 1 (by omega)) rfl rfl (by decide) (Nat.le_of_ble_eq_true rfl) (zk_J1 ?_)
      refine zV_tiald (66 * p + 2 * l + 1) 4290 dX4_leastFore_33 (md_k_fore hM) (md_z_fore hM) (by omega) (by omega) (by omega) ?_
      refine zV.eq (show ((zI h (o + 8) (66 * p + 2 * l + 1)).toInt : Int) = fo P (66 * p + 2 * l + 1) from hF _ (by omega)) ?_
      have b1 := fo_b hw (66 * p + 2 * l)
      have b2 := fo_b hw (66 * p + 2 * l + 1)
      refine zc_S (y' := zX4_lesser) (as := [.int (jI (fo P (66 * p + 2 * l))), .int (jI (fo P (66 * p + 2 * l + 1)))]) (rest := [.int (jI ((a : Int)))]) bX4_lesser dX4_leastFore_34 q2183 q2184 (c_X4_lesser _ _ ⟨by omega, by omega⟩ ⟨by omega, by omega⟩) rfl rfl (by decide) (Nat.le_of_ble_eq_true rfl) (zk_J1 ?_)
      refine zc_S (y' := zX4_lesser) (as := [.int (jI ((a : Int))), .int (jI (min (fo P (66 * p + 2 * l)) (fo P (66 * p + 2 * l + 1))))]) (rest := []) bX4_lesser dX4_leastFore_37 q2183 q2184 (c_X4_lesser a _ ⟨by omega, by omega⟩ ⟨by omega, by omega⟩) rfl rfl (by decide) (Nat.le_of_ble_eq_true rfl) (zk_J1 ?_)
      refine zV_istore_n (lv' := [(0, .ref o), (1, .int (jI ((p : Int)))), (2, .int (jI (min a (min (fo P (66 * p + 2 * l)) (fo P (66 * p + 2 * l + 1)))))), (3, .int (jI (((l : Nat) : Int))))]) 2 dX4_leastFore_40 rfl (by decide) rfl rfl ?_
      refine zV_jinc (lv' := [(0, .ref o), (1, .int (jI ((p : Int)))), (2, .int (jI (min a (min (fo P (66 * p + 2 * l)) (fo P (66 * p + 2 * l + 1)))))), (3, .int (jI (((l : Nat) : Int) + 1)))]) dX4_leastFore_41 rfl (by decide) rfl rfl ?_
      refine zV_goto 5 dX4_leastFore_44 rfl ?_
      rw [show (((l : Nat) : Int) + 1 : Int) = ((l + 1 : Nat) : Int) from by omega]
      exact ih (l + 1) _ (by omega) (by omega) (by omega)
  exact key 33 0 1000000 (by omega) (by omega) (by omega)
end M7
