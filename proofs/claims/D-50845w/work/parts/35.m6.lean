/-! ===== THE MODEL, 6: the table of the rest (printed by a program of gen/) ===== -/
set_option maxRecDepth 100000
section M6
variable {G : zG} {h : zH} {o : Nat} {P : pRow}
theorem c_X4_cheapestCopy (hM : MdL h o) (hP : gI h (o + 1) = P) (hw : pWf P) (hL : LC P (gI h (o + 6))) {R : pRow} (hR : gI h (o + 7) = R) (p l : Nat) (hp : (p : Int) < P 0) (hl : l < 33) (hB : rB P (p + 1) R) : zM G zX4_cheapestCopy 2 [.ref o, .int (jI (p : Int)), .int (jI (l : Int))] h (zJ h (some (.int (jI (ccp P R p l))))) := by
  obtain ⟨w0, w0b, w1, w1b, w2, w2b, w3, w3b, w4, w4b, w5, w5b, wp, wl, wn⟩ := id hw
  have hlg : ∀ d, lg P p d ≤ 12 := fun d => by have := lg_le P p d; omega
  refine zM.ofV (lv := [(0, .ref o), (1, .int (jI ((p : Int)))), (2, .int (jI ((l : Int))))]) (by decide +kernel) (Nat.le_of_ble_eq_true rfl) rfl ?_
  refine zV_jldc (1000000) dX4_cheapestCopy_0 q2332 (by decide) ?_
  refine zV_istore_n (lv' := [(0, .ref o), (1, .int (jI ((p : Int)))), (2, .int (jI ((l : Int)))), (3, .int (jI (1000000)))]) 3 dX4_cheapestCopy_2 rfl (by decide) rfl rfl ?_
  refine zV_iconst (n := 1) dX4_cheapestCopy_3 ?_
  refine zV_istore (lv' := [(0, .ref o), (1, .int (jI ((p : Int)))), (2, .int (jI ((l : Int)))), (3, .int (jI (1000000))), (4, .int (jI (1)))]) dX4_cheapestCopy_4 (by decide) rfl rfl ?_
  have key : ∀ f d : Nat, ∀ a : Int, d + f = 33 → 1 ≤ d → 0 ≤ a → a ≤ 1000000 → zV G zX4_cheapestCopy 2 6 [(0, .ref o), (1, .int (jI ((p : Int)))), (2, .int (jI ((l : Int)))), (3, .int (jI ((a : Int)))), (4, .int (jI (((d : Nat) : Int))))] [] h (zJ h (some (.int (jI (fU (fun d b => cpIn P R p l d b) f d a))))) := by
    intro f
    induction f with
    | zero =>
      intro d a h1 h2 h3 h4
      refine zV_iload dX4_cheapestCopy_6 rfl ?_
      refine zV_jbipush dX4_cheapestCopy_8 (by decide) ?_
      refine zV_jcmp_ge 74 dX4_cheapestCopy_10 rfl ⟨by omega, by omega⟩ ⟨by decide, by decide⟩ (fun c1 => ?_) (fun c_ => absurd c_ (by omega))
      refine zV_iload_n 3 dX4_cheapestCopy_74 rfl rfl ?_
      exact zV_ireturn dX4_cheapestCopy_75 rfl rfl ⟨rfl, rfl⟩
    | succ f ih =>
      intro d a h1 h2 h3 h4
      refine zV_iload dX4_cheapestCopy_6 rfl ?_
      refine zV_jbipush dX4_cheapestCopy_8 (by decide) ?_
      refine zV_jcmp_ge 74 dX4_cheapestCopy_10 rfl ⟨by omega, by omega⟩ ⟨by decide, by decide⟩ (fun c_ => absurd c_ (by omega)) (fun c1 => ?_)
      refine zV_aload_n 0 dX4_cheapestCopy_13 rfl rfl (Or.inr ⟨_, rfl⟩) ?_
      refine zV_iconst (n := 2) dX4_cheapestCopy_14 ?_
      refine zc_V (y' := zX4_set) (as := [.int (jI (2))]) (rest := []) (ci := 3) (q := (RX4, TX4, 27)) bX4_set dX4_cheapestCopy_15 q2157 q2159 qs73 (md_k hM) rfl (c_X4_set hM hP 2 (by omega)) rfl rfl (by decide) (Nat.le_of_ble_eq_true rfl) (by decide) (zk_J1 ?_)
      refine zV.eq (show (P (2 + 1) : Int) = P 3 from rfl) ?_
      refine zV.eq (show (P 3 : Int) = (((P 3).toNat : Nat) : Int) from by omega) ?_
      refine zV_istore (lv' := [(0, .ref o), (1, .int (jI ((p : Int)))), (2, .int (jI ((l : Int)))), (3, .int (jI ((a : Int)))), (4, .int (jI (((d : Nat) : Int)))), (5, .int (jI ((((P 3).toNat : Nat) : Int))))]) dX4_cheapestCopy_18 (by decide) rfl rfl ?_
      have hlp := lg_p (P := P) (p := p) (d := d)
      have hl := hlg d
      have key2 : ∀ f2 n : Nat, ∀ a : Int, f2 = lg P p d + 1 - n → (P 3).toNat ≤ n → n ≤ 13 → 0 ≤ a → a ≤ 1000000 → zV G zX4_cheapestCopy 2 20 [(0, .ref o), (1, .int (jI ((p : Int)))), (2, .int (jI ((l : Int)))), (3, .int (jI ((a : Int)))), (4, .int (jI (((d : Nat) : Int)))), (5, .int (jI (((n : Nat) : Int))))] [] h (zJ h (some (.int (jI (fU (fun d b => cpIn P R p l d b) f (d + 1) (fU (fun n b => min b (cC P n d l + R (66 * (p + n) + 2 * d))) f2 n a)))))) := by
        intro f2
        induction f2 with
        | zero =>
          intro n a h5 h6 hn13 h7 h8
          refine zV_iload dX4_cheapestCopy_20 rfl ?_
          refine zV_aload_n 0 dX4_cheapestCopy_22 rfl rfl (Or.inr ⟨_, rfl⟩) ?_
          refine zV_iload_n 1 dX4_cheapestCopy_23 rfl rfl ?_
          refine zV_iload dX4_cheapestCopy_24 rfl ?_
          refine zc_V (y' := zX4_longestAt) (as := [.int (jI ((p : Int))), .int (jI (((d : Nat) : Int)))]) (rest := [.int (jI (((n : Nat) : Int)))]) (ci := 3) (q := (RX4, TX4, 27)) bX4_longestAt dX4_cheapestCopy_26 q2210 q2212 qs84 (md_k hM) rfl (c_X4_longestAt hM p (d) (by omega) (by omega)) rfl rfl (by decide) (Nat.le_of_ble_eq_true rfl) (by decide) (zk_J1 ?_)
          refine zV.eq (show (gI h (o + 6) (33 * p + d) : Int) = ((lg P p d : Nat) : Int) from hL p _ (by omega) (by omega) (by omega)) ?_
          refine zV_jcmp_gt 68 dX4_cheapestCopy_29 rfl ⟨by omega, by omega⟩ ⟨by omega, by omega⟩ (fun c2 => ?_) (fun c_ => absurd c_ (by omega))
          refine zV_jinc (lv' := [(0, .ref o), (1, .int (jI ((p : Int)))), (2, .int (jI ((l : Int)))), (3, .int (jI ((a : Int)))), (4, .int (jI (((d : Nat) : Int) + 1))), (5, .int (jI (((n : Nat) : Int))))]) dX4_cheapestCopy_68 rfl (by decide) rfl rfl ?_
          refine zV_goto 6 dX4_cheapestCopy_71 rfl ?_
          refine zV.loc (lv' := [(0, .ref o), (1, .int (jI ((p : Int)))), (2, .int (jI ((l : Int)))), (3, .int (jI ((a : Int)))), (4, .int (jI (((d : Nat) : Int) + 1)))]) (fun q_ hq_ => (List.Sublist.cons₂ _ (List.Sublist.cons₂ _ (List.Sublist.cons₂ _ (List.Sublist.cons₂ _ (List.Sublist.cons₂ _ (List.Sublist.cons _ List.Sublist.slnil)))))).subset hq_) ?_
          rw [show (((d : Nat) : Int) + 1 : Int) = ((d + 1 : Nat) : Int) from by omega]
          exact ih (d + 1) a (by omega) (by omega) h7 h8
        | succ f2 ih2 =>
          intro n a h5 h6 hn13 h7 h8
          refine zV_iload dX4_cheapestCopy_20 rfl ?_
          refine zV_aload_n 0 dX4_cheapestCopy_22 rfl rfl (Or.inr ⟨_, rfl⟩) ?_
          refine zV_iload_n 1 dX4_cheapestCopy_23 rfl rfl ?_
          refine zV_iload dX4_cheapestCopy_24 rfl ?_
          refine zc_V (y' := zX4_longestAt) (as := [.int (jI ((p : Int))), .int (jI (((d : Nat) : Int)))]) (rest := [.int (jI (((n : Nat) : Int)))]) (ci := 3) (q := (RX4, TX4, 27)) bX4_longestAt dX4_cheapestCopy_26 q2210 q2212 qs84 (md_k hM) rfl (c_X4_longestAt hM p (d) (by omega) (by omega)) rfl rfl (by decide) (Nat.le_of_ble_eq_true rfl) (by decide) (zk_J1 ?_)
          refine zV.eq (show (gI h (o + 6) (33 * p + d) : Int) = ((lg P p d : Nat) : Int) from hL p _ (by omega) (by omega) (by omega)) ?_
          refine zV_jcmp_gt 68 dX4_cheapestCopy_29 rfl ⟨by omega, by omega⟩ ⟨by omega, by omega⟩ (fun c_ => absurd c_ (by omega)) (fun c2 => ?_)
          have hx := hB.b hw (j := 66 * (p + n) + 2 * d) (by omega) (by omega)
          have hc := cC_b hw n d l
          refine zV_iload_n 3 dX4_cheapestCopy_32 rfl rfl ?_
          refine zV_aload_n 0 dX4_cheapestCopy_33 rfl rfl (Or.inr ⟨_, rfl⟩) ?_
          refine zV_iload dX4_cheapestCopy_34 rfl ?_
          refine zV_iload dX4_cheapestCopy_36 rfl ?_
          refine zV_iload_n 2 dX4_cheapestCopy_38 rfl rfl ?_
          refine zc_V (y' := zX4_copyCost) (as := [.int (jI (((n : Nat) : Int))), .int (jI (((d : Nat) : Int))), .int (jI ((l : Int)))]) (rest := [.int (jI ((a : Int)))]) (ci := 3) (q := (RX4, TX4, 27)) bX4_copyCost dX4_cheapestCopy_39 q2299 q2301 qs96 (md_k hM) rfl (c_X4_copyCost hM hP n d l (by omega) (by omega) (by omega)) rfl rfl (by decide) (Nat.le_of_ble_eq_true rfl) (by decide) (zk_J1 ?_)
          refine zV_aload_n 0 dX4_cheapestCopy_42 rfl rfl (Or.inr ⟨_, rfl⟩) ?_
          refine zV_getf (v := .ref (o + 7)) (ci := 3) (q := (RX4, TX4, 27)) 9 dX4_cheapestCopy_43 q1926 (md_k hM) rfl (by decide) (congrArg va_rf (md_r_rest hM)) (by decide) ?_
          refine zV_iload_n 1 dX4_cheapestCopy_46 rfl rfl ?_
          refine zV_iload dX4_cheapestCopy_47 rfl ?_
          refine zV_jadd dX4_cheapestCopy_49 ?_
          refine zV.eq (show ((p : Int) + ((n : Nat) : Int) : Int) = ((p + n : Nat) : Int) from by omega) ?_
          refine zV_iload dX4_cheapestCopy_50 rfl ?_
          refine zV_iconst (n := 0) dX4_cheapestCopy_52 ?_
          refine zc_S (y' := zX4_state) (as := [.int (jI (((p + n : Nat) : Int))), .int (jI (((d : Nat) : Int))), .int (jI (0))]) (rest := [.ref (o + 7), .int (jI (cC P n d l)), .int (jI ((a : Int)))]) bX4_state dX4_cheapestCopy_53 q2321 q2322 (c_X4_state (p + n) d 0 (by omega)) rfl rfl (by decide) (Nat.le_of_ble_eq_true rfl) (zk_J1 ?_)
          refine zV.eq (show (((66 * (p + n) + 2 * d + 0 : Nat) : Int) : Int) = ((66 * (p + n) + 2 * d : Nat) : Int) from by omega) ?_
          refine zV_tiald (66 * (p + n) + 2 * d) 4290 dX4_cheapestCopy_56 (md_k_rest hM) (md_z_rest hM) (by omega) (by omega) (by omega) ?_
          refine zV.eq (congrFun hR (66 * (p + n) + 2 * d)) ?_
          refine zV_jadd dX4_cheapestCopy_57 ?_
          refine zc_S (y' := zX4_lesser) (as := [.int (jI ((a : Int))), .int (jI ((cC P n d l) + (R (66 * (p + n) + 2 * d))))]) (rest := []) bX4_lesser dX4_cheapestCopy_58 q2183 q2184 (c_X4_lesser a _ ⟨by omega, by omega⟩ ⟨by omega, by omega⟩) rfl rfl (by decide) (Nat.le_of_ble_eq_true rfl) (zk_J1 ?_)
          refine zV_istore_n (lv' := [(0, .ref o), (1, .int (jI ((p : Int)))), (2, .int (jI ((l : Int)))), (3, .int (jI (min a (cC P n d l + R (66 * (p + n) + 2 * d))))), (4, .int (jI (((d : Nat) : Int)))), (5, .int (jI (((n : Nat) : Int))))]) 3 dX4_cheapestCopy_61 rfl (by decide) rfl rfl ?_
          refine zV_jinc (lv' := [(0, .ref o), (1, .int (jI ((p : Int)))), (2, .int (jI ((l : Int)))), (3, .int (jI (min a (cC P n d l + R (66 * (p + n) + 2 * d))))), (4, .int (jI (((d : Nat) : Int)))), (5, .int (jI (((n : Nat) : Int) + 1)))]) dX4_cheapestCopy_62 rfl (by decide) rfl rfl ?_
          refine zV_goto 20 dX4_cheapestCopy_65 rfl ?_
          rw [show (((n : Nat) : Int) + 1 : Int) = ((n + 1 : Nat) : Int) from by omega]
          exact ih2 (n + 1) _ (by omega) (by omega) (by omega) (by omega) (by omega)
      exact key2 _ (P 3).toNat a rfl (Nat.le_refl _) (by omega) h3 h4
  exact key 32 1 1000000 (by omega) (by omega) (by omega) (by omega)
theorem c_X4_laysRestAt (hM : MdL h o) (hP : gI h (o + 1) = P) (hw : pWf P) (hL : LC P (gI h (o + 6))) {R : pRow} (hR : gI h (o + 7) = R) (p : Nat) (hp : (p : Int) < P 0) (hB : rB P (p + 1) R) : zM G zX4_laysRestAt 3 [.ref o, .int (jI (p : Int))] h (zOkV (fun h1 => zIo [o + 7] h h1 ∧ gI h1 (o + 7) = lyTo P R p 33)) := by
  obtain ⟨w0, w0b, w1, w1b, w2, w2b, w3, w3b, w4, w4b, w5, w5b, wp, wl, wn⟩ := id hw
  refine zM.ofV (lv := [(0, .ref o), (1, .int (jI ((p : Int))))]) (by decide +kernel) (Nat.le_of_ble_eq_true rfl) rfl ?_
  refine zV_iconst (n := 0) dX4_laysRestAt_0 ?_
  refine zV_istore_n (lv' := [(0, .ref o), (1, .int (jI ((p : Int)))), (2, .int (jI (0)))]) 2 dX4_laysRestAt_1 rfl (by decide) rfl rfl ?_
  have key : ∀ f l : Nat, ∀ g : zH, l + f = 33 → zIo [o + 7] h g → gI g (o + 7) = lyTo P R p l → zV G zX4_laysRestAt 3 2 [(0, .ref o), (1, .int (jI ((p : Int)))), (2, .int (jI (((l : Nat) : Int))))] [] g (zOkV (fun h1 => zIo [o + 7] h h1 ∧ gI h1 (o + 7) = lyTo P R p 33)) := by
    intro f
    induction f with
    | zero =>
      intro l g h1 i1 i2
      have hM2 : MdL g o := hM.io i1
      have hP2 : gI g (o + 1) = P := (i1.row (by simp)).trans hP
      have hL2 : LC P (gI g (o + 6)) := by rw [i1.row (by simp)]; exact hL
      have hB2 : rB P (p + 1) (lyTo P R p l) := fun j a b => by rw [lyTo_up (by omega) a]; exact hB j a b
      refine zV_iload_n 2 dX4_laysRestAt_2 rfl rfl ?_
      refine zV_jbipush dX4_laysRestAt_3 (by decide) ?_
      refine zV_jcmp_ge 84 dX4_laysRestAt_5 rfl ⟨by omega, by omega⟩ ⟨by decide, by decide⟩ (fun c1 => ?_) (fun c_ => absurd c_ (by omega))
      exact zV_return dX4_laysRestAt_84 rfl ⟨rfl, i1, by rw [i2, show l = 33 by omega]⟩
    | succ f ih =>
      intro l g h1 i1 i2
      have hM2 : MdL g o := hM.io i1
      have hP2 : gI g (o + 1) = P := (i1.row (by simp)).trans hP
      have hL2 : LC P (gI g (o + 6)) := by rw [i1.row (by simp)]; exact hL
      have hB2 : rB P (p + 1) (lyTo P R p l) := fun j a b => by rw [lyTo_up (by omega) a]; exact hB j a b
      refine zV_iload_n 2 dX4_laysRestAt_2 rfl rfl ?_
      refine zV_jbipush dX4_laysRestAt_3 (by decide) ?_
      refine zV_jcmp_ge 84 dX4_laysRestAt_5 rfl ⟨by omega, by omega⟩ ⟨by decide, by decide⟩ (fun c_ => absurd c_ (by omega)) (fun c1 => ?_)
      refine zV_aload_n 0 dX4_laysRestAt_8 rfl rfl (Or.inr ⟨_, rfl⟩) ?_
      refine zV_iload_n 1 dX4_laysRestAt_9 rfl rfl ?_
      refine zV_iload_n 2 dX4_laysRestAt_10 rfl rfl ?_
      refine zc_V (y' := zX4_cheapestCopy) (as := [.int (jI ((p : Int))), .int (jI (((l : Nat) : Int)))]) (rest := []) (ci := 3) (q := (RX4, TX4, 27)) bX4_cheapestCopy dX4_laysRestAt_11 q2328 q2330 qs100 (md_k hM2) rfl (c_X4_cheapestCopy hM2 hP2 hw hL2 i2 p l hp (by omega) hB2) rfl rfl (by decide) (Nat.le_of_ble_eq_true rfl) (by decide) (zk_J1 ?_)
      refine zV.eq (show (ccp P (lyTo P R p l) p l : Int) = ccp P R p l from ccp_congr hw hp (fun j a _ => lyTo_up (by omega) a)) ?_
      refine zV_istore_n (lv' := [(0, .ref o), (1, .int (jI ((p : Int)))), (2, .int (jI (((l : Nat) : Int)))), (3, .int (jI (ccp P R p l)))]) 3 dX4_laysRestAt_14 rfl (by decide) rfl rfl ?_
      refine zV_aload_n 0 dX4_laysRestAt_15 rfl rfl (Or.inr ⟨_, rfl⟩) ?_
      refine zV_getf (v := .ref (o + 7)) (ci := 3) (q := (RX4, TX4, 27)) 9 dX4_laysRestAt_16 q1926 (md_k hM2) rfl (by decide) (congrArg va_rf (md_r_rest hM2)) (by decide) ?_
      refine zV_iload_n 1 dX4_laysRestAt_19 rfl rfl ?_
      refine zV_iconst (n := 1) dX4_laysRestAt_20 ?_
      refine zV_jadd dX4_laysRestAt_21 ?_
      refine zV.eq (show ((p : Int) + 1 : Int) = ((p + 1 : Nat) : Int) from by omega) ?_
      refine zV_iload_n 2 dX4_laysRestAt_22 rfl rfl ?_
      refine zV_iconst (n := 1) dX4_laysRestAt_23 ?_
      refine zc_S (y' := zX4_state) (as := [.int (jI (((p + 1 : Nat) : Int))), .int (jI (((l : Nat) : Int))), .int (jI (1))]) (rest := [.ref (o + 7)]) bX4_state dX4_laysRestAt_24 q2321 q2322 (c_X4_state (p + 1) l 1 (by omega)) rfl rfl (by decide) (Nat.le_of_ble_eq_true rfl) (zk_J1 ?_)
      refine zV_tiald (66 * (p + 1) + 2 * l + 1) 4290 dX4_laysRestAt_27 (md_k_rest hM2) (md_z_rest hM2) (by omega) (by omega) (by omega) ?_
      refine zV.eq (congrFun i2 (66 * (p + 1) + 2 * l + 1)) ?_
      refine zV.eq (show (lyTo P R p l (66 * (p + 1) + 2 * l + 1) : Int) = R (66 * (p + 1) + 2 * l + 1) from lyTo_up (by omega) (by omega)) ?_
      have hb1 := ccp_b (l := l) hw hp hB
      have hb2 := lC_b hw hp 0
      have hb3 := lC_b hw hp 1
      have hb4 := hB.b hw (j := 66 * (p + 1) + 2 * l + 1) (by omega) (by omega)
      refine zV_istore (lv' := [(0, .ref o), (1, .int (jI ((p : Int)))), (2, .int (jI (((l : Nat) : Int)))), (3, .int (jI (ccp P R p l))), (4, .int (jI (R (66 * (p + 1) + 2 * l + 1))))]) dX4_laysRestAt_28 (by decide) rfl rfl ?_
      refine zV_aload_n 0 dX4_laysRestAt_30 rfl rfl (Or.inr ⟨_, rfl⟩) ?_
      refine zV_getf (v := .ref (o + 7)) (ci := 3) (q := (RX4, TX4, 27)) 9 dX4_laysRestAt_31 q1926 (md_k hM2) rfl (by decide) (congrArg va_rf (md_r_rest hM2)) (by decide) ?_
      refine zV_iload_n 1 dX4_laysRestAt_34 rfl rfl ?_
      refine zV_iload_n 2 dX4_laysRestAt_35 rfl rfl ?_
      refine zV_iconst (n := 0) dX4_laysRestAt_36 ?_
      refine zc_S (y' := zX4_state) (as := [.int (jI ((p : Int))), .int (jI (((l : Nat) : Int))), .int (jI (0))]) (rest := [.ref (o + 7)]) bX4_state dX4_laysRestAt_37 q2321 q2322 (c_X4_state p l 0 (by omega)) rfl rfl (by decide) (Nat.le_of_ble_eq_true rfl) (zk_J1 ?_)
      refine zV.eq (show (((66 * p + 2 * l + 0 : Nat) : Int) : Int) = ((66 * p + 2 * l : Nat) : Int) from by omega) ?_
      refine zV_iload_n 3 dX4_laysRestAt_40 rfl rfl ?_
      refine zV_aload_n 0 dX4_laysRestAt_41 rfl rfl (Or.inr ⟨_, rfl⟩) ?_
      refine zV_iload_n 1 dX4_laysRestAt_42 rfl rfl ?_
      refine zV_iconst (n := 0) dX4_laysRestAt_43 ?_
      refine zc_V (y' := zX4_literalCost) (as := [.int (jI ((p : Int))), .int (jI (0))]) (rest := [.int (jI (ccp P R p l)), .int (jI (((66 * p + 2 * l : Nat) : Int))), .ref (o + 7)]) (ci := 3) (q := (RX4, TX4, 27)) bX4_literalCost dX4_laysRestAt_44 q2333 q2335 qs101 (md_k hM2) rfl (c_X4_literalCost hM2 hP2 hw p 0 hp (by omega)) rfl rfl (by decide) (Nat.le_of_ble_eq_true rfl) (by decide) (zk_J1 ?_)
      refine zV_iload dX4_laysRestAt_47 rfl ?_
      refine zV_jadd dX4_laysRestAt_49 ?_
      refine zc_S (y' := zX4_lesser) (as := [.int (jI (ccp P R p l)), .int (jI ((lC P p 0) + (R (66 * (p + 1) + 2 * l + 1))))]) (rest := [.int (jI (((66 * p + 2 * l : Nat) : Int))), .ref (o + 7)]) bX4_lesser dX4_laysRestAt_50 q2183 q2184 (c_X4_lesser _ _ ⟨by omega, by omega⟩ ⟨by omega, by omega⟩) rfl rfl (by decide) (Nat.le_of_ble_eq_true rfl) (zk_J1 ?_)
      have hv0 := lyV_b (l := l) (r := 0) (by omega) hw hp hB
      have hv1 := lyV_b (l := l) (r := 1) (by omega) hw hp hB
      refine zV_jiast (x := jI (lyV P R p l 0)) (66 * p + 2 * l) 4290 dX4_laysRestAt_53 (md_k_rest hM2) (Nat.le_trans (md_ge hM2) (by omega)) (md_z_rest hM2) (by omega) (by omega) (by omega) ?_
      have i3 := i1.put (q := o + 7) (k := 66 * p + 2 * l) (x := jI (lyV P R p l 0)) (by simp)
      have hM3 := hM.io i3
      have hP3 : gI (sI g (o + 7) (66 * p + 2 * l) (jI (lyV P R p l 0))) (o + 1) = P := (i3.row (by simp)).trans hP
      refine zV_aload_n 0 dX4_laysRestAt_54 rfl rfl (Or.inr ⟨_, rfl⟩) ?_
      refine zV_getf (v := .ref (o + 7)) (ci := 3) (q := (RX4, TX4, 27)) 9 dX4_laysRestAt_55 q1926 (md_k hM3) rfl (by decide) (congrArg va_rf (md_r_rest hM3)) (by decide) ?_
      refine zV_iload_n 1 dX4_laysRestAt_58 rfl rfl ?_
      refine zV_iload_n 2 dX4_laysRestAt_59 rfl rfl ?_
      refine zV_iconst (n := 1) dX4_laysRestAt_60 ?_
      refine zc_S (y' := zX4_state) (as := [.int (jI ((p : Int))), .int (jI (((l : Nat) : Int))), .int (jI (1))]) (rest := [.ref (o + 7)]) bX4_state dX4_laysRestAt_61 q2321 q2322 (c_X4_state p l 1 (by omega)) rfl rfl (by decide) (Nat.le_of_ble_eq_true rfl) (zk_J1 ?_)
      refine zV_iload_n 3 dX4_laysRestAt_64 rfl rfl ?_
      refine zV_aload_n 0 dX4_laysRestAt_65 rfl rfl (Or.inr ⟨_, rfl⟩) ?_
      refine zV_iload_n 1 dX4_laysRestAt_66 rfl rfl ?_
      refine zV_iconst (n := 1) dX4_laysRestAt_67 ?_
      refine zc_V (y' := zX4_literalCost) (as := [.int (jI ((p : Int))), .int (jI (1))]) (rest := [.int (jI (ccp P R p l)), .int (jI (((66 * p + 2 * l + 1 : Nat) : Int))), .ref (o + 7)]) (ci := 3) (q := (RX4, TX4, 27)) bX4_literalCost dX4_laysRestAt_68 q2333 q2335 qs101 (md_k hM3) rfl (c_X4_literalCost hM3 hP3 hw p 1 hp (by omega)) rfl rfl (by decide) (Nat.le_of_ble_eq_true rfl) (by decide) (zk_J1 ?_)
      refine zV_iload dX4_laysRestAt_71 rfl ?_
      refine zV_jadd dX4_laysRestAt_73 ?_
      refine zc_S (y' := zX4_lesser) (as := [.int (jI (ccp P R p l)), .int (jI ((lC P p 1) + (R (66 * (p + 1) + 2 * l + 1))))]) (rest := [.int (jI (((66 * p + 2 * l + 1 : Nat) : Int))), .ref (o + 7)]) bX4_lesser dX4_laysRestAt_74 q2183 q2184 (c_X4_lesser _ _ ⟨by omega, by omega⟩ ⟨by omega, by omega⟩) rfl rfl (by decide) (Nat.le_of_ble_eq_true rfl) (zk_J1 ?_)
      refine zV_jiast (x := jI (lyV P R p l 1)) (66 * p + 2 * l + 1) 4290 dX4_laysRestAt_77 (md_k_rest hM3) (Nat.le_trans (md_ge hM3) (by omega)) (md_z_rest hM3) (by omega) (by omega) (by omega) ?_
      refine zV_jinc (lv' := [(0, .ref o), (1, .int (jI ((p : Int)))), (2, .int (jI (((l : Nat) : Int) + 1))), (3, .int (jI (ccp P R p l))), (4, .int (jI (R (66 * (p + 1) + 2 * l + 1))))]) dX4_laysRestAt_78 rfl (by decide) rfl rfl ?_
      refine zV_goto 2 dX4_laysRestAt_81 rfl ?_
      refine zV.loc (lv' := [(0, .ref o), (1, .int (jI ((p : Int)))), (2, .int (jI (((l : Nat) : Int) + 1)))]) (fun q_ hq_ => (List.Sublist.cons₂ _ (List.Sublist.cons₂ _ (List.Sublist.cons₂ _ (List.Sublist.cons _ (List.Sublist.cons _ List.Sublist.slnil))))).subset hq_) ?_
      rw [show (((l : Nat) : Int) + 1 : Int) = ((l + 1 : Nat) : Int) from by omega]
      refine ih (l + 1) _ (by omega) (i3.put (by simp)) (funext fun j => ?_)
      rw [gI_put ⟨by omega, by omega⟩, gI_put ⟨by omega, by omega⟩, lyTo_s, i2]
      simp only [true_and]
  exact key 33 0 h (by omega) zIo.rf (by rw [lyTo_0]; exact hR)
theorem c_X4_laysRest (hM : MdL h o) (hP : gI h (o + 1) = P) (hw : pWf P) : zM G zX4_laysRest 5 [.ref o] h (zOkI (fun z h1 => z = bPr P ∧ zIo [o + 6, o + 7] h h1 ∧ LC P (gI h1 (o + 6)) ∧ ∀ j, j < 66 * ((P 0).toNat + 1) → gI h1 (o + 7) j = rt P j)) := by
  obtain ⟨w0, w0b, w1, w1b, w2, w2b, w3, w3b, w4, w4b, w5, w5b, wp, wl, wn⟩ := id hw
  refine zM.ofV (lv := [(0, .ref o)]) (by decide +kernel) (Nat.le_of_ble_eq_true rfl) rfl ?_
  refine zV_aload_n 0 dX4_laysRest_0 rfl rfl (Or.inr ⟨_, rfl⟩) ?_
  refine zc_V (y' := zX4_laysCopies) (as := []) (rest := []) (ci := 3) (q := (RX4, TX4, 27)) bX4_laysCopies dX4_laysRest_1 q2190 q2192 qs79 (md_k hM) rfl (c_X4_laysCopies hM hP hw) rfl rfl (by decide) (Nat.le_of_ble_eq_true rfl) (by decide) (zk_V (fun h0 ⟨i0, hL0⟩ _ => ?_))
  have hM0 := hM.io i0
  have hP0 : gI h0 (o + 1) = P := (i0.row (by simp)).trans hP
  refine zV_iconst (n := 0) dX4_laysRest_4 ?_
  refine zV_istore_n (lv' := [(0, .ref o), (1, .int (jI (0)))]) 1 dX4_laysRest_5 rfl (by decide) rfl rfl ?_
  have key : ∀ f : Nat, ∀ g : zH, ∀ R : pRow, (f : Int) ≤ P 0 → zIo [o + 7] h0 g → gI g (o + 7) = R → rB P f R → lyDn P f R = lyR P (gI h0 (o + 7)) → zV G zX4_laysRest 5 55 [(0, .ref o), (1, .int (jI (((f : Nat) : Int) - 1)))] [] g (zOkI (fun z h1 => z = bPr P ∧ zIo [o + 6, o + 7] h h1 ∧ LC P (gI h1 (o + 6)) ∧ ∀ j, j < 66 * ((P 0).toNat + 1) → gI h1 (o + 7) j = rt P j)) := by
    intro f
    induction f with
    | zero =>
      intro g R h1 i1 i2 i3 i4
      have hM2 : MdL g o := hM0.io i1
      have hP2 : gI g (o + 1) = P := (i1.row (by simp)).trans hP0
      have hL2 : LC P (gI g (o + 6)) := by rw [i1.row (by simp)]; exact hL0
      refine zV_iload_n 1 dX4_laysRest_55 rfl rfl ?_
      refine zV_jif_lt 70 dX4_laysRest_56 rfl ⟨by omega, by omega⟩ (fun _ => ?_) (fun c_ => absurd c_ (by omega))
      refine zV_aload_n 0 dX4_laysRest_70 rfl rfl (Or.inr ⟨_, rfl⟩) ?_
      refine zV_getf (v := .ref (o + 7)) (ci := 3) (q := (RX4, TX4, 27)) 9 dX4_laysRest_71 q1926 (md_k hM2) rfl (by decide) (congrArg va_rf (md_r_rest hM2)) (by decide) ?_
      refine zV_iconst (n := 0) dX4_laysRest_74 ?_
      refine zV_iconst (n := 0) dX4_laysRest_75 ?_
      refine zV_iconst (n := 0) dX4_laysRest_76 ?_
      refine zc_S (y' := zX4_state) (as := [.int (jI (0)), .int (jI (0)), .int (jI (0))]) (rest := [.ref (o + 7)]) bX4_state dX4_laysRest_77 q2321 q2322 (c_X4_state 0 0 0 (by omega)) rfl rfl (by decide) (Nat.le_of_ble_eq_true rfl) (zk_J1 ?_)
      refine zV.eq (show (((66 * 0 + 2 * 0 + 0 : Nat) : Int) : Int) = ((0 : Nat) : Int) from by omega) ?_
      refine zV_tiald 0 4290 dX4_laysRest_80 (md_k_rest hM2) (md_z_rest hM2) (by omega) (by omega) (by omega) ?_
      refine zV.eq (congrFun i2 0) ?_
      have hR0 : R = lyR P (gI h0 (o + 7)) := i4
      refine zV.eq (show (R 0 : Int) = bPr P from by rw [hR0]; exact lyR_rt hw _ (by omega)) ?_
      exact zV_ireturn dX4_laysRest_81 rfl rfl ⟨_, rfl, rfl, (i0.mono (by simp)).tr (i1.mono (by simp)), hL2, fun j hj => by rw [i2, hR0]; exact lyR_rt hw _ hj⟩
    | succ f ih =>
      intro g R h1 i1 i2 i3 i4
      have hM2 : MdL g o := hM0.io i1
      have hP2 : gI g (o + 1) = P := (i1.row (by simp)).trans hP0
      have hL2 : LC P (gI g (o + 6)) := by rw [i1.row (by simp)]; exact hL0
      refine zV_iload_n 1 dX4_laysRest_55 rfl rfl ?_
      refine zV_jif_lt 70 dX4_laysRest_56 rfl ⟨by omega, by omega⟩ (fun c_ => absurd c_ (by omega)) (fun _ => ?_)
      refine zV_aload_n 0 dX4_laysRest_59 rfl rfl (Or.inr ⟨_, rfl⟩) ?_
      refine zV_iload_n 1 dX4_laysRest_60 rfl rfl ?_
      refine zV.eq (show (((f + 1 : Nat) : Int) - 1 : Int) = ((f : Nat) : Int) from by omega) ?_
      refine zc_V (y' := zX4_laysRestAt) (as := [.int (jI (((f : Nat) : Int)))]) (rest := []) (ci := 3) (q := (RX4, TX4, 27)) bX4_laysRestAt dX4_laysRest_61 q2324 q2326 qs99 (md_k hM2) rfl (c_X4_laysRestAt hM2 hP2 hw hL2 i2 f (by omega) i3) rfl rfl (by decide) (Nat.le_of_ble_eq_true rfl) (by decide) (zk_V (fun h2 ⟨j1, j2⟩ _ => ?_))
      refine zV_jinc (lv' := [(0, .ref o), (1, .int (jI ((((f + 1 : Nat) : Int) - 1) + (-1))))]) dX4_laysRest_64 rfl (by decide) rfl rfl ?_
      refine zV_goto 55 dX4_laysRest_67 rfl ?_
      rw [show ((((f + 1 : Nat) : Int) - 1) + (-1) : Int) = ((f : Nat) : Int) - 1 from by omega]
      exact ih h2 _ (by omega) (i1.tr j1) j2 (lyTo_rB hw (by omega) i3) i4
  have hmn : P 0 = (((P 0).toNat : Nat) : Int) := by omega
  have key1 : ∀ f l : Nat, ∀ g : zH, l + f = 33 → zIo [o + 7] h0 g → gI g (o + 7) = lyZ P (gI h0 (o + 7)) l → zV G zX4_laysRest 5 6 [(0, .ref o), (1, .int (jI (((l : Nat) : Int))))] [] g (zOkI (fun z h1 => z = bPr P ∧ zIo [o + 6, o + 7] h h1 ∧ LC P (gI h1 (o + 6)) ∧ ∀ j, j < 66 * ((P 0).toNat + 1) → gI h1 (o + 7) j = rt P j)) := by
    intro f
    induction f with
    | zero =>
      intro l g h1 i1 i2
      have hM2 : MdL g o := hM0.io i1
      have hP2 : gI g (o + 1) = P := (i1.row (by simp)).trans hP0
      have hL2 : LC P (gI g (o + 6)) := by rw [i1.row (by simp)]; exact hL0
      refine zV_iload_n 1 dX4_laysRest_6 rfl rfl ?_
      refine zV_jbipush dX4_laysRest_7 (by decide) ?_
      refine zV_jcmp_ge 48 dX4_laysRest_9 rfl ⟨by omega, by omega⟩ ⟨by decide, by decide⟩ (fun c1 => ?_) (fun c_ => absurd c_ (by omega))
      refine zV_aload_n 0 dX4_laysRest_48 rfl rfl (Or.inr ⟨_, rfl⟩) ?_
      refine zc_V (y' := zX4_many) (as := []) (rest := []) (ci := 3) (q := (RX4, TX4, 27)) bX4_many dX4_laysRest_49 q2042 q2044 qs50 (md_k hM2) rfl (c_X4_many hM2 hP2) rfl rfl (by decide) (Nat.le_of_ble_eq_true rfl) (by decide) (zk_J1 ?_)
      refine zV.eq (show (P 0 : Int) = (((P 0).toNat : Nat) : Int) from by omega) ?_
      refine zV_iconst (n := 1) dX4_laysRest_52 ?_
      refine zV_jsub dX4_laysRest_53 ?_
      refine zV_istore_n (lv' := [(0, .ref o), (1, .int (jI ((((P 0).toNat : Nat) : Int) - 1)))]) 1 dX4_laysRest_54 rfl (by decide) rfl rfl ?_
      exact key (P 0).toNat g _ (by omega) i1 (by rw [i2, show l = 33 by omega]) (lyZ_rB hw) rfl
    | succ f ih =>
      intro l g h1 i1 i2
      have hM2 : MdL g o := hM0.io i1
      have hP2 : gI g (o + 1) = P := (i1.row (by simp)).trans hP0
      have hL2 : LC P (gI g (o + 6)) := by rw [i1.row (by simp)]; exact hL0
      refine zV_iload_n 1 dX4_laysRest_6 rfl rfl ?_
      refine zV_jbipush dX4_laysRest_7 (by decide) ?_
      refine zV_jcmp_ge 48 dX4_laysRest_9 rfl ⟨by omega, by omega⟩ ⟨by decide, by decide⟩ (fun c_ => absurd c_ (by omega)) (fun c1 => ?_)
      refine zV_aload_n 0 dX4_laysRest_12 rfl rfl (Or.inr ⟨_, rfl⟩) ?_
      refine zV_getf (v := .ref (o + 7)) (ci := 3) (q := (RX4, TX4, 27)) 9 dX4_laysRest_13 q1926 (md_k hM2) rfl (by decide) (congrArg va_rf (md_r_rest hM2)) (by decide) ?_
      refine zV_aload_n 0 dX4_laysRest_16 rfl rfl (Or.inr ⟨_, rfl⟩) ?_
      refine zc_V (y' := zX4_many) (as := []) (rest := [.ref (o + 7)]) (ci := 3) (q := (RX4, TX4, 27)) bX4_many dX4_laysRest_17 q2042 q2044 qs50 (md_k hM2) rfl (c_X4_many hM2 hP2) rfl rfl (by decide) (Nat.le_of_ble_eq_true rfl) (by decide) (zk_J1 ?_)
      refine zV.eq (show (P 0 : Int) = (((P 0).toNat : Nat) : Int) from by omega) ?_
      refine zV_iload_n 1 dX4_laysRest_20 rfl rfl ?_
      refine zV_iconst (n := 0) dX4_laysRest_21 ?_
      refine zc_S (y' := zX4_state) (as := [.int (jI ((((P 0).toNat : Nat) : Int))), .int (jI (((l : Nat) : Int))), .int (jI (0))]) (rest := [.ref (o + 7)]) bX4_state dX4_laysRest_22 q2321 q2322 (c_X4_state ((P 0).toNat) l 0 (by omega)) rfl rfl (by decide) (Nat.le_of_ble_eq_true rfl) (zk_J1 ?_)
      refine zV.eq (show (((66 * ((P 0).toNat) + 2 * l + 0 : Nat) : Int) : Int) = ((66 * (P 0).toNat + 2 * l : Nat) : Int) from by omega) ?_
      refine zV_iconst (n := 0) dX4_laysRest_25 ?_
      refine zV_jiast (x := jI (0)) (66 * (P 0).toNat + 2 * l) 4290 dX4_laysRest_26 (md_k_rest hM2) (Nat.le_trans (md_ge hM2) (by omega)) (md_z_rest hM2) (by omega) (by omega) (by omega) ?_
      have i3 := i1.put (q := o + 7) (k := 66 * (P 0).toNat + 2 * l) (x := jI 0) (by simp)
      have hM3 := hM0.io i3
      have hP3 : gI (sI g (o + 7) (66 * (P 0).toNat + 2 * l) (jI 0)) (o + 1) = P := (i3.row (by simp)).trans hP0
      refine zV_aload_n 0 dX4_laysRest_27 rfl rfl (Or.inr ⟨_, rfl⟩) ?_
      refine zV_getf (v := .ref (o + 7)) (ci := 3) (q := (RX4, TX4, 27)) 9 dX4_laysRest_28 q1926 (md_k hM3) rfl (by decide) (congrArg va_rf (md_r_rest hM3)) (by decide) ?_
      refine zV_aload_n 0 dX4_laysRest_31 rfl rfl (Or.inr ⟨_, rfl⟩) ?_
      refine zc_V (y' := zX4_many) (as := []) (rest := [.ref (o + 7)]) (ci := 3) (q := (RX4, TX4, 27)) bX4_many dX4_laysRest_32 q2042 q2044 qs50 (md_k hM3) rfl (c_X4_many hM3 hP3) rfl rfl (by decide) (Nat.le_of_ble_eq_true rfl) (by decide) (zk_J1 ?_)
      refine zV.eq (show (P 0 : Int) = (((P 0).toNat : Nat) : Int) from by omega) ?_
      refine zV_iload_n 1 dX4_laysRest_35 rfl rfl ?_
      refine zV_iconst (n := 1) dX4_laysRest_36 ?_
      refine zc_S (y' := zX4_state) (as := [.int (jI ((((P 0).toNat : Nat) : Int))), .int (jI (((l : Nat) : Int))), .int (jI (1))]) (rest := [.ref (o + 7)]) bX4_state dX4_laysRest_37 q2321 q2322 (c_X4_state ((P 0).toNat) l 1 (by omega)) rfl rfl (by decide) (Nat.le_of_ble_eq_true rfl) (zk_J1 ?_)
      refine zV_iconst (n := 0) dX4_laysRest_40 ?_
      refine zV_jiast (x := jI (0)) (66 * (P 0).toNat + 2 * l + 1) 4290 dX4_laysRest_41 (md_k_rest hM3) (Nat.le_trans (md_ge hM3) (by omega)) (md_z_rest hM3) (by omega) (by omega) (by omega) ?_
      refine zV_jinc (lv' := [(0, .ref o), (1, .int (jI (((l : Nat) : Int) + 1)))]) dX4_laysRest_42 rfl (by decide) rfl rfl ?_
      refine zV_goto 6 dX4_laysRest_45 rfl ?_
      rw [show (((l : Nat) : Int) + 1 : Int) = ((l + 1 : Nat) : Int) from by omega]
      refine ih (l + 1) _ (by omega) (i3.put (by simp)) (funext fun j => ?_)
      rw [gI_put ⟨by decide, by decide⟩, gI_put ⟨by decide, by decide⟩, i2]
      simp only [true_and, lyZ]
      split
      · rw [if_pos (by omega)]
      · split
        · rw [if_pos (by omega)]
        · split
          · rw [if_pos (by omega)]
          · rw [if_neg (by omega)]
  exact key1 33 0 h0 (by omega) zIo.rf (funext fun j => by unfold lyZ; rw [if_neg (by omega)])
end M6
