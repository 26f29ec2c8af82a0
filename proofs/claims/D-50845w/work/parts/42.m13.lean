/-! ===== THE MODEL, 13: questions about prices (printed by a program of gen/) ===== -/
set_option maxRecDepth 100000
section M13
variable {G : zG} {h : zH} {o : Nat} {P : pRow}
theorem c_X4_restPrice (hM : MdL h o) (hP : gI h (o + 1) = P) (hw : pWf P) (a : Int) (ha : jr a) (b : Int) (hb : jr b) (r : Nat) (hr : r < 2) : zM G zX4_restPrice 6 [.ref o, .int (jI a), .int (jI b), .int (jI (r : Int))] h (zAn o (ma2 (0 ≤ a ∧ a < P 0) (0 ≤ b ∧ b ≤ 32)) (rt P (66 * a.toNat + 2 * b.toNat + r)) h) := by
  obtain ⟨w0, w0b, w1, w1b, w2, w2b, w3, w3b, w4, w4b, w5, w5b, wp, wl, wn⟩ := id hw
  refine zM.ofV (lv := [(0, .ref o), (1, .int (jI (a))), (2, .int (jI (b))), (3, .int (jI (((r : Nat) : Int))))]) (by decide +kernel) (Nat.le_of_ble_eq_true rfl) rfl ?_
  refine zV_aload_n 0 dX4_restPrice_0 rfl rfl (Or.inr ⟨_, rfl⟩) ?_
  refine zV_aload_n 0 dX4_restPrice_1 rfl rfl (Or.inr ⟨_, rfl⟩) ?_
  refine zV_iload_n 1 dX4_restPrice_2 rfl rfl ?_
  refine zc_V (y' := zX4_isPlace) (as := [.int (jI (a))]) (rest := [.ref o]) (ci := 3) (q := (RX4, TX4, 27)) bX4_isPlace dX4_restPrice_3 q2256 q2258 qs90 (md_k hM) rfl (c_X4_isPlace hM hP hw a ha) rfl rfl (by decide) (Nat.le_of_ble_eq_true rfl) (by decide) (zk_J1 ?_)
  refine zV_iload_n 2 dX4_restPrice_6 rfl rfl ?_
  refine zV_iconst (n := 0) dX4_restPrice_7 ?_
  refine zV_jbipush dX4_restPrice_8 (by decide) ?_
  refine zc_S (y' := zX4_isIn) (as := [.int (jI (b)), .int (jI (0)), .int (jI (32))]) (rest := [.int (jI (bI (0 ≤ a ∧ a < P 0))), .ref o]) bX4_isIn dX4_restPrice_10 q2012 q2013 (c_X4_isIn (b) (0) (32) hb ⟨by decide, by decide⟩ ⟨by decide, by decide⟩) rfl rfl (by decide) (Nat.le_of_ble_eq_true rfl) (zk_J1 ?_)
  refine zc_V (y' := zX4_mayTwo) (as := [.int (jI (bI (0 ≤ a ∧ a < P 0))), .int (jI (bI (0 ≤ b ∧ b ≤ 32)))]) (rest := []) (ci := 3) (q := (RX4, TX4, 27)) bX4_mayTwo dX4_restPrice_13 q2145 q2147 qs70 (md_k hM) rfl (c_X4_mayTwo hM (0 ≤ a ∧ a < P 0) (0 ≤ b ∧ b ≤ 32)) rfl rfl (by decide) (Nat.le_of_ble_eq_true rfl) (by decide) (zk_I (fun z h1 ⟨ez, i0⟩ _ => ?_))
  subst ez
  have hM1 : MdL h1 o := hM.ch i0.1
  have hP1 : gI h1 (o + 1) = P := (i0.1.row (by simp)).trans hP
  by_cases cm : (0 ≤ a ∧ a < P 0) ∧ (0 ≤ b ∧ b ≤ 32)
  · refine zV.eq (show (bI ((0 ≤ a ∧ a < P 0) ∧ (0 ≤ b ∧ b ≤ 32)) : Int) = 1 from bI_t cm) ?_
    refine zV_jif_ne 21 dX4_restPrice_16 rfl ⟨by decide, by decide⟩ (fun _ => ?_) (fun c_ => absurd c_ (by decide))
    obtain ⟨p, rfl⟩ : ∃ n_ : Nat, a = (n_ : Int) := ⟨(a).toNat, by omega⟩
    obtain ⟨l, rfl⟩ : ∃ n_ : Nat, b = (n_ : Int) := ⟨(b).toNat, by omega⟩
    refine zV_aload_n 0 dX4_restPrice_21 rfl rfl (Or.inr ⟨_, rfl⟩) ?_
    refine zc_V (y' := zX4_laysRest) (as := []) (rest := []) (ci := 3) (q := (RX4, TX4, 27)) bX4_laysRest dX4_restPrice_22 q2317 q2319 qs98 (md_k hM1) rfl (c_X4_laysRest hM1 hP1 hw) rfl rfl (by decide) (Nat.le_of_ble_eq_true rfl) (by decide) (zk_I (fun z h2 ⟨ez, j1, j2, j3⟩ _ => ?_))
    subst ez
    have hM2 : MdL h2 o := hM1.io j1
    have hP2 : gI h2 (o + 1) = P := (j1.row (by simp)).trans hP1
    have c1 : zCh [o + 6, o + 7] o [] h1 h2 := zCh.io j1 (by simp)
    refine zV_istore (lv' := [(0, .ref o), (1, .int (jI (((p : Nat) : Int)))), (2, .int (jI (((l : Nat) : Int)))), (3, .int (jI (((r : Nat) : Int)))), (4, .int (jI (bPr P)))]) dX4_restPrice_25 (by decide) rfl rfl ?_
    refine zV_aload_n 0 dX4_restPrice_27 rfl rfl (Or.inr ⟨_, rfl⟩) ?_
    refine zV_getf (v := .ref (o + 7)) (ci := 3) (q := (RX4, TX4, 27)) 9 dX4_restPrice_28 q1926 (md_k hM2) rfl (by decide) (congrArg va_rf (md_r_rest hM2)) (by decide) ?_
    refine zV_iload_n 1 dX4_restPrice_31 rfl rfl ?_
    refine zV_iload_n 2 dX4_restPrice_32 rfl rfl ?_
    refine zV_iload_n 3 dX4_restPrice_33 rfl rfl ?_
    refine zc_S (y' := zX4_state) (as := [.int (jI (((p : Nat) : Int))), .int (jI (((l : Nat) : Int))), .int (jI (((r : Nat) : Int)))]) (rest := [.ref (o + 7)]) bX4_state dX4_restPrice_34 q2321 q2322 (c_X4_state p l r (by omega)) rfl rfl (by decide) (Nat.le_of_ble_eq_true rfl) (zk_J1 ?_)
    refine zV_tiald (66 * p + 2 * l + r) 4290 dX4_restPrice_37 (md_k_rest hM2) (md_z_rest hM2) (by omega) (by omega) (by omega) ?_
    refine zV.eq (show ((zI h2 (o + 7) (66 * p + 2 * l + r)).toInt : Int) = rt P (66 * p + 2 * l + r) from j3 _ (by omega)) ?_
    exact zV_ireturn dX4_restPrice_38 rfl rfl ⟨_, rfl, i0.go c1 (by simp) (by simp) (by simp), fun _ => rfl⟩
  · refine zV.eq (show (bI ((0 ≤ a ∧ a < P 0) ∧ (0 ≤ b ∧ b ≤ 32)) : Int) = 0 from bI_f cm) ?_
    refine zV_jif_ne 21 dX4_restPrice_16 rfl ⟨by decide, by decide⟩ (fun c_ => absurd c_ (by decide)) (fun _ => ?_)
    refine zV_iconst (n := 0) dX4_restPrice_19 ?_
    exact zV_ireturn dX4_restPrice_20 rfl rfl ⟨_, rfl, i0.go0, fun e => absurd e (ma2_ne cm)⟩
def thN (P : pRow) (p : Nat) : Int := fU (fun l b => min (min b (fo P (66 * p + 2 * l) + rt P (66 * p + 2 * l))) (fo P (66 * p + 2 * l + 1) + rt P (66 * p + 2 * l + 1))) 33 0 1000000
def chW (P : pRow) (p n d : Nat) : Int := fU (fun l b => min b (min (fo P (66 * p + 2 * l)) (fo P (66 * p + 2 * l + 1)) + cC P n d l)) 33 0 1000000 + rt P (66 * (p + n) + 2 * d)
theorem c_X4_throughNow (hM : MdL h o) (hw : pWf P) (hF : ∀ j, j < 4290 → gI h (o + 8) j = fo P j) (hR : ∀ j, j < 66 * ((P 0).toNat + 1) → gI h (o + 7) j = rt P j) (p : Nat) (hp : (p : Int) ≤ P 0) : zM G zX4_throughNow 2 [.ref o, .int (jI (p : Int))] h (zJ h (some (.int (jI (thN P p))))) := by
  obtain ⟨w0, w0b, w1, w1b, w2, w2b, w3, w3b, w4, w4b, w5, w5b, wp, wl, wn⟩ := id hw
  refine zM.ofV (lv := [(0, .ref o), (1, .int (jI ((p : Int))))]) (by decide +kernel) (Nat.le_of_ble_eq_true rfl) rfl ?_
  refine zV_jldc (1000000) dX4_throughNow_0 q2332 (by decide) ?_
  refine zV_istore_n (lv' := [(0, .ref o), (1, .int (jI ((p : Int)))), (2, .int (jI (1000000)))]) 2 dX4_throughNow_2 rfl (by decide) rfl rfl ?_
  refine zV_iconst (n := 0) dX4_throughNow_3 ?_
  refine zV_istore_n (lv' := [(0, .ref o), (1, .int (jI ((p : Int)))), (2, .int (jI (1000000))), (3, .int (jI (0)))]) 3 dX4_throughNow_4 rfl (by decide) rfl rfl ?_
  have key : ∀ f l : Nat, ∀ a : Int, l + f = 33 → 0 ≤ a → a ≤ 1000000 → zV G zX4_throughNow 2 5 [(0, .ref o), (1, .int (jI ((p : Int)))), (2, .int (jI ((a : Int)))), (3, .int (jI (((l : Nat) : Int))))] [] h (zJ h (some (.int (jI (fU (fun l b => min (min b (fo P (66 * p + 2 * l) + rt P (66 * p + 2 * l))) (fo P (66 * p + 2 * l + 1) + rt P (66 * p + 2 * l + 1))) f l a))))) := by
    intro f
    induction f with
    | zero =>
      intro l a h1 h2 h3
      refine zV_iload_n 3 dX4_throughNow_5 rfl rfl ?_
      refine zV_jbipush dX4_throughNow_6 (by decide) ?_
      refine zV_jcmp_ge 80 dX4_throughNow_8 rfl ⟨by omega, by omega⟩ ⟨by decide, by decide⟩ (fun c1 => ?_) (fun c_ => absurd c_ (by omega))
      refine zV_iload_n 2 dX4_throughNow_80 rfl rfl ?_
      exact zV_ireturn dX4_throughNow_81 rfl rfl ⟨rfl, rfl⟩
    | succ f ih =>
      intro l a h1 h2 h3
      have b1 := fo_b hw (66 * p + 2 * l)
      have b2 := fo_b hw (66 * p + 2 * l + 1)
      have b3 := (rt_rB hw).b hw (j := 66 * p + 2 * l) (by omega) (by omega)
      have b4 := (rt_rB hw).b hw (j := 66 * p + 2 * l + 1) (by omega) (by omega)
      refine zV_iload_n 3 dX4_throughNow_5 rfl rfl ?_
      refine zV_jbipush dX4_throughNow_6 (by decide) ?_
      refine zV_jcmp_ge 80 dX4_throughNow_8 rfl ⟨by omega, by omega⟩ ⟨by decide, by decide⟩ (fun c_ => absurd c_ (by omega)) (fun c1 => ?_)
      refine zV_iconst (n := 0) dX4_throughNow_11 ?_
      refine zV_istore (lv' := [(0, .ref o), (1, .int (jI ((p : Int)))), (2, .int (jI ((a : Int)))), (3, .int (jI (((l : Nat) : Int)))), (4, .int (jI (0)))]) dX4_throughNow_12 (by decide) rfl rfl ?_
      refine zV_iload dX4_throughNow_14 rfl ?_
      refine zV_iconst (n := 2) dX4_throughNow_16 ?_
      refine zV_jcmp_ge 74 dX4_throughNow_17 rfl ⟨by decide, by decide⟩ ⟨by decide, by decide⟩ (fun c_ => absurd c_ (by omega)) (fun cr => ?_)
      refine zV_iload_n 2 dX4_throughNow_20 rfl rfl ?_
      refine zV_aload_n 0 dX4_throughNow_21 rfl rfl (Or.inr ⟨_, rfl⟩) ?_
      refine zV_getf (v := .ref (o + 8)) (ci := 3) (q := (RX4, TX4, 27)) 10 dX4_throughNow_22 q1927 (md_k hM) rfl (by decide) (congrArg va_rf (md_r_fore hM)) (by decide) ?_
      refine zV_iload_n 1 dX4_throughNow_25 rfl rfl ?_
      refine zV_iload_n 3 dX4_throughNow_26 rfl rfl ?_
      refine zV_iload dX4_throughNow_27 rfl ?_
      refine zV_iconst (n := 1) dX4_throughNow_29 ?_
      refine zV_jcmp_ne 37 dX4_throughNow_30 rfl ⟨by decide, by decide⟩ ⟨by decide, by decide⟩ (fun cs => ?_) (fun c_ => absurd c_ (by omega))
      refine zV_iconst (n := 0) dX4_throughNow_37 ?_
      refine zc_S (y' := zX4_state) (as := [.int (jI ((p : Int))), .int (jI (((l : Nat) : Int))), .int (jI (0))]) (rest := [.ref (o + 8), .int (jI ((a : Int)))]) bX4_state dX4_throughNow_38 q2321 q2322 (c_X4_state p l 0 (by omega)) rfl rfl (by decide) (Nat.le_of_ble_eq_true rfl) (zk_J1 ?_)
      refine zV.eq (show (((66 * p + 2 * l + 0 : Nat) : Int) : Int) = ((66 * p + 2 * l : Nat) : Int) from by omega) ?_
      refine zV_tiald (66 * p + 2 * l) 4290 dX4_throughNow_41 (md_k_fore hM) (md_z_fore hM) (by omega) (by omega) (by omega) ?_
      refine zV.eq (show ((zI h (o + 8) (66 * p + 2 * l)).toInt : Int) = fo P (66 * p + 2 * l) from hF _ (by omega)) ?_
      refine zV_aload_n 0 dX4_throughNow_42 rfl rfl (Or.inr ⟨_, rfl⟩) ?_
      refine zV_getf (v := .ref (o + 7)) (ci := 3) (q := (RX4, TX4, 27)) 9 dX4_throughNow_43 q1926 (md_k hM) rfl (by decide) (congrArg va_rf (md_r_rest hM)) (by decide) ?_
      refine zV_iload_n 1 dX4_throughNow_46 rfl rfl ?_
      refine zV_iload_n 3 dX4_throughNow_47 rfl rfl ?_
      refine zV_iload dX4_throughNow_48 rfl ?_
      refine zV_iconst (n := 1) dX4_throughNow_50 ?_
      refine zV_jcmp_ne 58 dX4_throughNow_51 rfl ⟨by decide, by decide⟩ ⟨by decide, by decide⟩ (fun ct => ?_) (fun c_ => absurd c_ (by omega))
      refine zV_iconst (n := 0) dX4_throughNow_58 ?_
      refine zc_S (y' := zX4_state) (as := [.int (jI ((p : Int))), .int (jI (((l : Nat) : Int))), .int (jI (0))]) (rest := [.ref (o + 7), .int (jI (fo P (66 * p + 2 * l))), .int (jI ((a : Int)))]) bX4_state dX4_throughNow_59 q2321 q2322 (c_X4_state p l 0 (by omega)) rfl rfl (by decide) (Nat.le_of_ble_eq_true rfl) (zk_J1 ?_)
      refine zV.eq (show (((66 * p + 2 * l + 0 : Nat) : Int) : Int) = ((66 * p + 2 * l : Nat) : Int) from by omega) ?_
      refine zV_tiald (66 * p + 2 * l) 4290 dX4_throughNow_62 (md_k_rest hM) (md_z_rest hM) (by omega) (by omega) (by omega) ?_
      refine zV.eq (show ((zI h (o + 7) (66 * p + 2 * l)).toInt : Int) = rt P (66 * p + 2 * l) from hR _ (by omega)) ?_
      refine zV_jadd dX4_throughNow_63 ?_
      refine zc_S (y' := zX4_lesser) (as := [.int (jI ((a : Int))), .int (jI ((fo P (66 * p + 2 * l)) + (rt P (66 * p + 2 * l))))]) (rest := []) bX4_lesser dX4_throughNow_64 q2183 q2184 (c_X4_lesser (a) _ ⟨by omega, by omega⟩ ⟨by omega, by omega⟩) rfl rfl (by decide) (Nat.le_of_ble_eq_true rfl) (zk_J1 ?_)
      refine zV_istore_n (lv' := [(0, .ref o), (1, .int (jI ((p : Int)))), (2, .int (jI (min a (fo P (66 * p + 2 * l) + rt P (66 * p + 2 * l))))), (3, .int (jI (((l : Nat) : Int)))), (4, .int (jI (0)))]) 2 dX4_throughNow_67 rfl (by decide) rfl rfl ?_
      refine zV_jinc (lv' := [(0, .ref o), (1, .int (jI ((p : Int)))), (2, .int (jI (min a (fo P (66 * p + 2 * l) + rt P (66 * p + 2 * l))))), (3, .int (jI (((l : Nat) : Int)))), (4, .int (jI (0 + 1)))]) dX4_throughNow_68 rfl (by decide) rfl rfl ?_
      refine zV_goto 14 dX4_throughNow_71 rfl ?_
      rw [show (0 + 1 : Int) = 1 from by rfl]
      refine zV_iload dX4_throughNow_14 rfl ?_
      refine zV_iconst (n := 2) dX4_throughNow_16 ?_
      refine zV_jcmp_ge 74 dX4_throughNow_17 rfl ⟨by decide, by decide⟩ ⟨by decide, by decide⟩ (fun c_ => absurd c_ (by omega)) (fun cr => ?_)
      refine zV_iload_n 2 dX4_throughNow_20 rfl rfl ?_
      refine zV_aload_n 0 dX4_throughNow_21 rfl rfl (Or.inr ⟨_, rfl⟩) ?_
      refine zV_getf (v := .ref (o + 8)) (ci := 3) (q := (RX4, TX4, 27)) 10 dX4_throughNow_22 q1927 (md_k hM) rfl (by decide) (congrArg va_rf (md_r_fore hM)) (by decide) ?_
      refine zV_iload_n 1 dX4_throughNow_25 rfl rfl ?_
      refine zV_iload_n 3 dX4_throughNow_26 rfl rfl ?_
      refine zV_iload dX4_throughNow_27 rfl ?_
      refine zV_iconst (n := 1) dX4_throughNow_29 ?_
      refine zV_jcmp_ne 37 dX4_throughNow_30 rfl ⟨by decide, by decide⟩ ⟨by decide, by decide⟩ (fun c_ => absurd c_ (by omega)) (fun cs => ?_)
      refine zV_iconst (n := 1) dX4_throughNow_33 ?_
      refine zV_goto 38 dX4_throughNow_34 rfl ?_
      refine zc_S (y' := zX4_state) (as := [.int (jI ((p : Int))), .int (jI (((l : Nat) : Int))), .int (jI (1))]) (rest := [.ref (o + 8), .int (jI (min a (fo P (66 * p + 2 * l) + rt P (66 * p + 2 * l))))]) bX4_state dX4_throughNow_38 q2321 q2322 (c_X4_state p l 1 (by omega)) rfl rfl (by decide) (Nat.le_of_ble_eq_true rfl) (zk_J1 ?_)
      refine zV.eq (show (((66 * p + 2 * l + 1 : Nat) : Int) : Int) = ((66 * p + 2 * l + 1 : Nat) : Int) from by omega) ?_
      refine zV_tiald (66 * p + 2 * l + 1) 4290 dX4_throughNow_41 (md_k_fore hM) (md_z_fore hM) (by omega) (by omega) (by omega) ?_
      refine zV.eq (show ((zI h (o + 8) (66 * p + 2 * l + 1)).toInt : Int) = fo P (66 * p + 2 * l + 1) from hF _ (by omega)) ?_
      refine zV_aload_n 0 dX4_throughNow_42 rfl rfl (Or.inr ⟨_, rfl⟩) ?_
      refine zV_getf (v := .ref (o + 7)) (ci := 3) (q := (RX4, TX4, 27)) 9 dX4_throughNow_43 q1926 (md_k hM) rfl (by decide) (congrArg va_rf (md_r_rest hM)) (by decide) ?_
      refine zV_iload_n 1 dX4_throughNow_46 rfl rfl ?_
      refine zV_iload_n 3 dX4_throughNow_47 rfl rfl ?_
      refine zV_iload dX4_throughNow_48 rfl ?_
      refine zV_iconst (n := 1) dX4_throughNow_50 ?_
      refine zV_jcmp_ne 58 dX4_throughNow_51 rfl ⟨by decide, by decide⟩ ⟨by decide, by decide⟩ (fun c_ => absurd c_ (by omega)) (fun ct => ?_)
      refine zV_iconst (n := 1) dX4_throughNow_54 ?_
      refine zV_goto 59 dX4_throughNow_55 rfl ?_
      refine zc_S (y' := zX4_state) (as := [.int (jI ((p : Int))), .int (jI (((l : Nat) : Int))), .int (jI (1))]) (rest := [.ref (o + 7), .int (jI (fo P (66 * p + 2 * l + 1))), .int (jI (min a (fo P (66 * p + 2 * l) + rt P (66 * p + 2 * l))))]) bX4_state dX4_throughNow_59 q2321 q2322 (c_X4_state p l 1 (by omega)) rfl rfl (by decide) (Nat.le_of_ble_eq_true rfl) (zk_J1 ?_)
      refine zV.eq (show (((66 * p + 2 * l + 1 : Nat) : Int) : Int) = ((66 * p + 2 * l + 1 : Nat) : Int) from by omega) ?_
      refine zV_tiald (66 * p + 2 * l + 1) 4290 dX4_throughNow_62 (md_k_rest hM) (md_z_rest hM) (by omega) (by omega) (by omega) ?_
      refine zV.eq (show ((zI h (o + 7) (66 * p + 2 * l + 1)).toInt : Int) = rt P (66 * p + 2 * l + 1) from hR _ (by omega)) ?_
      refine zV_jadd dX4_throughNow_63 ?_
      refine zc_S (y' := zX4_lesser) (as := [.int (jI (min a (fo P (66 * p + 2 * l) + rt P (66 * p + 2 * l)))), .int (jI ((fo P (66 * p + 2 * l + 1)) + (rt P (66 * p + 2 * l + 1))))]) (rest := []) bX4_lesser dX4_throughNow_64 q2183 q2184 (c_X4_lesser (min a (fo P (66 * p + 2 * l) + rt P (66 * p + 2 * l))) _ ⟨by omega, by omega⟩ ⟨by omega, by omega⟩) rfl rfl (by decide) (Nat.le_of_ble_eq_true rfl) (zk_J1 ?_)
      refine zV_istore_n (lv' := [(0, .ref o), (1, .int (jI ((p : Int)))), (2, .int (jI (min (min a (fo P (66 * p + 2 * l) + rt P (66 * p + 2 * l))) (fo P (66 * p + 2 * l + 1) + rt P (66 * p + 2 * l + 1))))), (3, .int (jI (((l : Nat) : Int)))), (4, .int (jI (1)))]) 2 dX4_throughNow_67 rfl (by decide) rfl rfl ?_
      refine zV_jinc (lv' := [(0, .ref o), (1, .int (jI ((p : Int)))), (2, .int (jI (min (min a (fo P (66 * p + 2 * l) + rt P (66 * p + 2 * l))) (fo P (66 * p + 2 * l + 1) + rt P (66 * p + 2 * l + 1))))), (3, .int (jI (((l : Nat) : Int)))), (4, .int (jI (1 + 1)))]) dX4_throughNow_68 rfl (by decide) rfl rfl ?_
      refine zV_goto 14 dX4_throughNow_71 rfl ?_
      rw [show (1 + 1 : Int) = 2 from by rfl]
      refine zV_iload dX4_throughNow_14 rfl ?_
      refine zV_iconst (n := 2) dX4_throughNow_16 ?_
      refine zV_jcmp_ge 74 dX4_throughNow_17 rfl ⟨by decide, by decide⟩ ⟨by decide, by decide⟩ (fun cz => ?_) (fun c_ => absurd c_ (by omega))
      refine zV_jinc (lv' := [(0, .ref o), (1, .int (jI ((p : Int)))), (2, .int (jI (min (min a (fo P (66 * p + 2 * l) + rt P (66 * p + 2 * l))) (fo P (66 * p + 2 * l + 1) + rt P (66 * p + 2 * l + 1))))), (3, .int (jI (((l : Nat) : Int) + 1))), (4, .int (jI (2)))]) dX4_throughNow_74 rfl (by decide) rfl rfl ?_
      refine zV_goto 5 dX4_throughNow_77 rfl ?_
      refine zV.loc (lv' := [(0, .ref o), (1, .int (jI ((p : Int)))), (2, .int (jI (min (min a (fo P (66 * p + 2 * l) + rt P (66 * p + 2 * l))) (fo P (66 * p + 2 * l + 1) + rt P (66 * p + 2 * l + 1))))), (3, .int (jI (((l : Nat) : Int) + 1)))]) (fun q_ hq_ => (List.Sublist.cons₂ _ (List.Sublist.cons₂ _ (List.Sublist.cons₂ _ (List.Sublist.cons₂ _ (List.Sublist.cons _ List.Sublist.slnil))))).subset hq_) ?_
      rw [show (((l : Nat) : Int) + 1 : Int) = ((l + 1 : Nat) : Int) from by omega]
      exact ih (l + 1) _ (by omega) (by omega) (by omega)
  exact key 33 0 1000000 (by omega) (by omega) (by omega)
theorem c_X4_through (hM : MdL h o) (hP : gI h (o + 1) = P) (hw : pWf P) (a : Int) (ha : jr a) : zM G zX4_through 6 [.ref o, .int (jI a)] h (zAn o (ma1 (0 ≤ a ∧ a < P 0)) (thN P a.toNat) h) := by
  obtain ⟨w0, w0b, w1, w1b, w2, w2b, w3, w3b, w4, w4b, w5, w5b, wp, wl, wn⟩ := id hw
  refine zM.ofV (lv := [(0, .ref o), (1, .int (jI (a)))]) (by decide +kernel) (Nat.le_of_ble_eq_true rfl) rfl ?_
  refine zV_aload_n 0 dX4_through_0 rfl rfl (Or.inr ⟨_, rfl⟩) ?_
  refine zV_aload_n 0 dX4_through_1 rfl rfl (Or.inr ⟨_, rfl⟩) ?_
  refine zV_iload_n 1 dX4_through_2 rfl rfl ?_
  refine zc_V (y' := zX4_isPlace) (as := [.int (jI (a))]) (rest := [.ref o]) (ci := 3) (q := (RX4, TX4, 27)) bX4_isPlace dX4_through_3 q2256 q2258 qs90 (md_k hM) rfl (c_X4_isPlace hM hP hw a ha) rfl rfl (by decide) (Nat.le_of_ble_eq_true rfl) (by decide) (zk_J1 ?_)
  refine zc_V (y' := zX4_mayOne) (as := [.int (jI (bI (0 ≤ a ∧ a < P 0)))]) (rest := []) (ci := 3) (q := (RX4, TX4, 27)) bX4_mayOne dX4_through_6 q2141 q2143 qs69 (md_k hM) rfl (c_X4_mayOne hM (0 ≤ a ∧ a < P 0)) rfl rfl (by decide) (Nat.le_of_ble_eq_true rfl) (by decide) (zk_I (fun z h1 ⟨ez, i0⟩ _ => ?_))
  subst ez
  have hM1 : MdL h1 o := hM.ch i0.1
  have hP1 : gI h1 (o + 1) = P := (i0.1.row (by simp)).trans hP
  by_cases cm : 0 ≤ a ∧ a < P 0
  · refine zV.eq (show (bI (0 ≤ a ∧ a < P 0) : Int) = 1 from bI_t cm) ?_
    refine zV_jif_ne 14 dX4_through_9 rfl ⟨by decide, by decide⟩ (fun _ => ?_) (fun c_ => absurd c_ (by decide))
    obtain ⟨p, rfl⟩ : ∃ n_ : Nat, a = (n_ : Int) := ⟨(a).toNat, by omega⟩
    refine zV_aload_n 0 dX4_through_14 rfl rfl (Or.inr ⟨_, rfl⟩) ?_
    refine zc_V (y' := zX4_laysRest) (as := []) (rest := []) (ci := 3) (q := (RX4, TX4, 27)) bX4_laysRest dX4_through_15 q2317 q2319 qs98 (md_k hM1) rfl (c_X4_laysRest hM1 hP1 hw) rfl rfl (by decide) (Nat.le_of_ble_eq_true rfl) (by decide) (zk_I (fun z h2 ⟨ez, j1, j2, j3⟩ _ => ?_))
    subst ez
    have hM2 : MdL h2 o := hM1.io j1
    have hP2 : gI h2 (o + 1) = P := (j1.row (by simp)).trans hP1
    have c1 : zCh [o + 6, o + 7] o [] h1 h2 := zCh.io j1 (by simp)
    refine zV_istore_n (lv' := [(0, .ref o), (1, .int (jI (((p : Nat) : Int)))), (2, .int (jI (bPr P)))]) 2 dX4_through_18 rfl (by decide) rfl rfl ?_
    refine zV_aload_n 0 dX4_through_19 rfl rfl (Or.inr ⟨_, rfl⟩) ?_
    refine zc_V (y' := zX4_laysFore) (as := []) (rest := []) (ci := 3) (q := (RX4, TX4, 27)) bX4_laysFore dX4_through_20 q2421 q2423 qs118 (md_k hM2) rfl (c_X4_laysFore hM2 hP2 hw j2) rfl rfl (by decide) (Nat.le_of_ble_eq_true rfl) (by decide) (zk_V (fun h3 ⟨k1, k2⟩ _ => ?_))
    have hM3 : MdL h3 o := hM2.io k1
    have hP3 : gI h3 (o + 1) = P := (k1.row (by simp)).trans hP2
    have k3 : ∀ j, j < 66 * ((P 0).toNat + 1) → gI h3 (o + 7) j = rt P j := fun j hj => by rw [k1.row (by simp)]; exact j3 j hj
    have c2 : zCh [o + 6, o + 7, o + 8] o [] h1 h3 := (c1.mono (by simp) (by simp)).tr (zCh.io (k1.mono (by simp)) (by simp))
    refine zV_aload_n 0 dX4_through_23 rfl rfl (Or.inr ⟨_, rfl⟩) ?_
    refine zV_iload_n 1 dX4_through_24 rfl rfl ?_
    refine zc_V (y' := zX4_throughNow) (as := [.int (jI (((p : Nat) : Int)))]) (rest := []) (ci := 3) (q := (RX4, TX4, 27)) bX4_throughNow dX4_through_25 q2433 q2435 qs121 (md_k hM3) rfl (c_X4_throughNow hM3 hw k2 k3 p (by omega)) rfl rfl (by decide) (Nat.le_of_ble_eq_true rfl) (by decide) (zk_J1 ?_)
    exact zV_ireturn dX4_through_28 rfl rfl ⟨_, rfl, i0.go c2 (by simp) (by simp) (by simp), fun _ => rfl⟩
  · refine zV.eq (show (bI (0 ≤ a ∧ a < P 0) : Int) = 0 from bI_f cm) ?_
    refine zV_jif_ne 14 dX4_through_9 rfl ⟨by decide, by decide⟩ (fun c_ => absurd c_ (by decide)) (fun _ => ?_)
    refine zV_iconst (n := 0) dX4_through_12 ?_
    exact zV_ireturn dX4_through_13 rfl rfl ⟨_, rfl, i0.go0, fun e => absurd e (ma1_ne cm)⟩
theorem c_X4_cheapestWith (hM : MdL h o) (hP : gI h (o + 1) = P) (hw : pWf P) (hF : ∀ j, j < 4290 → gI h (o + 8) j = fo P j) (hR : ∀ j, j < 66 * ((P 0).toNat + 1) → gI h (o + 7) j = rt P j) (p n d : Nat) (hp : ((p + n : Nat) : Int) ≤ P 0) (hd : d < 33) : zM G zX4_cheapestWith 2 [.ref o, .int (jI (p : Int)), .int (jI (n : Int)), .int (jI (d : Int))] h (zJ h (some (.int (jI (chW P p n d))))) := by
  obtain ⟨w0, w0b, w1, w1b, w2, w2b, w3, w3b, w4, w4b, w5, w5b, wp, wl, wn⟩ := id hw
  refine zM.ofV (lv := [(0, .ref o), (1, .int (jI ((p : Int)))), (2, .int (jI (((n : Nat) : Int)))), (3, .int (jI ((d : Int))))]) (by decide +kernel) (Nat.le_of_ble_eq_true rfl) rfl ?_
  refine zV_jldc (1000000) dX4_cheapestWith_0 q2332 (by decide) ?_
  refine zV_istore (lv' := [(0, .ref o), (1, .int (jI ((p : Int)))), (2, .int (jI (((n : Nat) : Int)))), (3, .int (jI ((d : Int)))), (4, .int (jI (1000000)))]) dX4_cheapestWith_2 (by decide) rfl rfl ?_
  refine zV_iconst (n := 0) dX4_cheapestWith_4 ?_
  refine zV_istore (lv' := [(0, .ref o), (1, .int (jI ((p : Int)))), (2, .int (jI (((n : Nat) : Int)))), (3, .int (jI ((d : Int)))), (4, .int (jI (1000000))), (5, .int (jI (0)))]) dX4_cheapestWith_5 (by decide) rfl rfl ?_
  have key : ∀ f l : Nat, ∀ a : Int, l + f = 33 → 0 ≤ a → a ≤ 1000000 → zV G zX4_cheapestWith 2 7 [(0, .ref o), (1, .int (jI ((p : Int)))), (2, .int (jI (((n : Nat) : Int)))), (3, .int (jI ((d : Int)))), (4, .int (jI ((a : Int)))), (5, .int (jI (((l : Nat) : Int))))] [] h (zJ h (some (.int (jI (fU (fun l b => min b (min (fo P (66 * p + 2 * l)) (fo P (66 * p + 2 * l + 1)) + cC P n d l)) f l a + rt P (66 * (p + n) + 2 * d)))))) := by
    intro f
    induction f with
    | zero =>
      intro l a h1 h2 h3
      refine zV_iload dX4_cheapestWith_7 rfl ?_
      refine zV_jbipush dX4_cheapestWith_9 (by decide) ?_
      refine zV_jcmp_ge 67 dX4_cheapestWith_11 rfl ⟨by omega, by omega⟩ ⟨by decide, by decide⟩ (fun c1 => ?_) (fun c_ => absurd c_ (by omega))
      refine zV_iload dX4_cheapestWith_67 rfl ?_
      refine zV_aload_n 0 dX4_cheapestWith_69 rfl rfl (Or.inr ⟨_, rfl⟩) ?_
      refine zV_getf (v := .ref (o + 7)) (ci := 3) (q := (RX4, TX4, 27)) 9 dX4_cheapestWith_70 q1926 (md_k hM) rfl (by decide) (congrArg va_rf (md_r_rest hM)) (by decide) ?_
      refine zV_iload_n 1 dX4_cheapestWith_73 rfl rfl ?_
      refine zV_iload_n 2 dX4_cheapestWith_74 rfl rfl ?_
      refine zV_jadd dX4_cheapestWith_75 ?_
      refine zV.eq (show ((p : Int) + ((n : Nat) : Int) : Int) = ((p + n : Nat) : Int) from by omega) ?_
      refine zV_iload_n 3 dX4_cheapestWith_76 rfl rfl ?_
      refine zV_iconst (n := 0) dX4_cheapestWith_77 ?_
      refine zc_S (y' := zX4_state) (as := [.int (jI (((p + n : Nat) : Int))), .int (jI ((d : Int))), .int (jI (0))]) (rest := [.ref (o + 7), .int (jI ((a : Int)))]) bX4_state dX4_cheapestWith_78 q2321 q2322 (c_X4_state (p + n) d 0 (by omega)) rfl rfl (by decide) (Nat.le_of_ble_eq_true rfl) (zk_J1 ?_)
      refine zV.eq (show (((66 * (p + n) + 2 * d + 0 : Nat) : Int) : Int) = ((66 * (p + n) + 2 * d : Nat) : Int) from by omega) ?_
      refine zV_tiald (66 * (p + n) + 2 * d) 4290 dX4_cheapestWith_81 (md_k_rest hM) (md_z_rest hM) (by omega) (by omega) (by omega) ?_
      refine zV.eq (show ((zI h (o + 7) (66 * (p + n) + 2 * d)).toInt : Int) = rt P (66 * (p + n) + 2 * d) from hR _ (by omega)) ?_
      refine zV_jadd dX4_cheapestWith_82 ?_
      exact zV_ireturn dX4_cheapestWith_83 rfl rfl ⟨rfl, rfl⟩
    | succ f ih =>
      intro l a h1 h2 h3
      have b1 := fo_b hw (66 * p + 2 * l)
      have b2 := fo_b hw (66 * p + 2 * l + 1)
      have hc := cC_b hw n d l
      refine zV_iload dX4_cheapestWith_7 rfl ?_
      refine zV_jbipush dX4_cheapestWith_9 (by decide) ?_
      refine zV_jcmp_ge 67 dX4_cheapestWith_11 rfl ⟨by omega, by omega⟩ ⟨by decide, by decide⟩ (fun c_ => absurd c_ (by omega)) (fun c1 => ?_)
      refine zV_aload_n 0 dX4_cheapestWith_14 rfl rfl (Or.inr ⟨_, rfl⟩) ?_
      refine zV_getf (v := .ref (o + 8)) (ci := 3) (q := (RX4, TX4, 27)) 10 dX4_cheapestWith_15 q1927 (md_k hM) rfl (by decide) (congrArg va_rf (md_r_fore hM)) (by decide) ?_
      refine zV_iload_n 1 dX4_cheapestWith_18 rfl rfl ?_
      refine zV_iload dX4_cheapestWith_19 rfl ?_
      refine zV_iconst (n := 0) dX4_cheapestWith_21 ?_
      refine zc_S (y' := zX4_state) (as := [.int (jI ((p : Int))), .int (jI (((l : Nat) : Int))), .int (jI (0))]) (rest := [.ref (o + 8)]) bX4_state dX4_cheapestWith_22 q2321 q2322 (c_X4_state p l 0 (by omega)) rfl rfl (by decide) (Nat.le_of_ble_eq_true rfl) (zk_J1 ?_)
      refine zV.eq (show (((66 * p + 2 * l + 0 : Nat) : Int) : Int) = ((66 * p + 2 * l : Nat) : Int) from by omega) ?_
      refine zV_tiald (66 * p + 2 * l) 4290 dX4_cheapestWith_25 (md_k_fore hM) (md_z_fore hM) (by omega) (by omega) (by omega) ?_
      refine zV.eq (show ((zI h (o + 8) (66 * p + 2 * l)).toInt : Int) = fo P (66 * p + 2 * l) from hF _ (by omega)) ?_
      refine zV_aload_n 0 dX4_cheapestWith_26 rfl rfl (Or.inr ⟨_, rfl⟩) ?_
      refine zV_getf (v := .ref (o + 8)) (ci := 3) (q := (RX4, TX4, 27)) 10 dX4_cheapestWith_27 q1927 (md_k hM) rfl (by decide) (congrArg va_rf (md_r_fore hM)) (by decide) ?_
      refine zV_iload_n 1 dX4_cheapestWith_30 rfl rfl ?_
      refine zV_iload dX4_cheapestWith_31 rfl ?_
      refine zV_iconst (n := 1) dX4_cheapestWith_33 ?_
      refine zc_S (y' := zX4_state) (as := [.int (jI ((p : Int))), .int (jI (((l : Nat) : Int))), .int (jI (1))]) (rest := [.ref (o + 8), .int (jI (fo P (66 * p + 2 * l)))]) bX4_state dX4_cheapestWith_34 q2321 q2322 (c_X4_state p l 1 (by omega)) rfl rfl (by decide) (Nat.le_of_ble_eq_true rfl) (zk_J1 ?_)
      refine zV_tiald (66 * p + 2 * l + 1) 4290 dX4_cheapestWith_37 (md_k_fore hM) (md_z_fore hM) (by omega) (by omega) (by omega) ?_
      refine zV.eq (show ((zI h (o + 8) (66 * p + 2 * l + 1)).toInt : Int) = fo P (66 * p + 2 * l + 1) from hF _ (by omega)) ?_
      refine zc_S (y' := zX4_lesser) (as := [.int (jI (fo P (66 * p + 2 * l))), .int (jI (fo P (66 * p + 2 * l + 1)))]) (rest := []) bX4_lesser dX4_cheapestWith_38 q2183 q2184 (c_X4_lesser _ _ ⟨by omega, by omega⟩ ⟨by omega, by omega⟩) rfl rfl (by decide) (Nat.le_of_ble_eq_true rfl) (zk_J1 ?_)
      refine zV_istore (lv' := [(0, .ref o), (1, .int (jI ((p : Int)))), (2, .int (jI (((n : Nat) : Int)))), (3, .int (jI ((d : Int)))), (4, .int (jI ((a : Int)))), (5, .int (jI (((l : Nat) : Int)))), (6, .int (jI (min (fo P (66 * p + 2 * l)) (fo P (66 * p + 2 * l + 1)))))]) dX4_cheapestWith_41 (by decide) rfl rfl ?_
      refine zV_iload dX4_cheapestWith_43 rfl ?_
      refine zV_iload dX4_cheapestWith_45 rfl ?_
      refine zV_aload_n 0 dX4_cheapestWith_47 rfl rfl (Or.inr ⟨_, rfl⟩) ?_
      refine zV_iload_n 2 dX4_cheapestWith_48 rfl rfl ?_
      refine zV_iload_n 3 dX4_cheapestWith_49 rfl rfl ?_
      refine zV_iload dX4_cheapestWith_50 rfl ?_
      refine zc_V (y' := zX4_copyCost) (as := [.int (jI (((n : Nat) : Int))), .int (jI ((d : Int))), .int (jI (((l : Nat) : Int)))]) (rest := [.int (jI (min (fo P (66 * p + 2 * l)) (fo P (66 * p + 2 * l + 1)))), .int (jI ((a : Int)))]) (ci := 3) (q := (RX4, TX4, 27)) bX4_copyCost dX4_cheapestWith_52 q2299 q2301 qs96 (md_k hM) rfl (c_X4_copyCost hM hP n d l (by omega) (by omega) (by omega)) rfl rfl (by decide) (Nat.le_of_ble_eq_true rfl) (by decide) (zk_J1 ?_)
      refine zV_jadd dX4_cheapestWith_55 ?_
      refine zc_S (y' := zX4_lesser) (as := [.int (jI ((a : Int))), .int (jI ((min (fo P (66 * p + 2 * l)) (fo P (66 * p + 2 * l + 1))) + (cC P n d l)))]) (rest := []) bX4_lesser dX4_cheapestWith_56 q2183 q2184 (c_X4_lesser a _ ⟨by omega, by omega⟩ ⟨by omega, by omega⟩) rfl rfl (by decide) (Nat.le_of_ble_eq_true rfl) (zk_J1 ?_)
      refine zV_istore (lv' := [(0, .ref o), (1, .int (jI ((p : Int)))), (2, .int (jI (((n : Nat) : Int)))), (3, .int (jI ((d : Int)))), (4, .int (jI (min a (min (fo P (66 * p + 2 * l)) (fo P (66 * p + 2 * l + 1)) + cC P n d l)))), (5, .int (jI (((l : Nat) : Int)))), (6, .int (jI (min (fo P (66 * p + 2 * l)) (fo P (66 * p + 2 * l + 1)))))]) dX4_cheapestWith_59 (by decide) rfl rfl ?_
      refine zV_jinc (lv' := [(0, .ref o), (1, .int (jI ((p : Int)))), (2, .int (jI (((n : Nat) : Int)))), (3, .int (jI ((d : Int)))), (4, .int (jI (min a (min (fo P (66 * p + 2 * l)) (fo P (66 * p + 2 * l + 1)) + cC P n d l)))), (5, .int (jI (((l : Nat) : Int) + 1))), (6, .int (jI (min (fo P (66 * p + 2 * l)) (fo P (66 * p + 2 * l + 1)))))]) dX4_cheapestWith_61 rfl (by decide) rfl rfl ?_
      refine zV_goto 7 dX4_cheapestWith_64 rfl ?_
      refine zV.loc (lv' := [(0, .ref o), (1, .int (jI ((p : Int)))), (2, .int (jI (((n : Nat) : Int)))), (3, .int (jI ((d : Int)))), (4, .int (jI (min a (min (fo P (66 * p + 2 * l)) (fo P (66 * p + 2 * l + 1)) + cC P n d l)))), (5, .int (jI (((l : Nat) : Int) + 1)))]) (fun q_ hq_ => (List.Sublist.cons₂ _ (List.Sublist.cons₂ _ (List.Sublist.cons₂ _ (List.Sublist.cons₂ _ (List.Sublist.cons₂ _ (List.Sublist.cons₂ _ (List.Sublist.cons _ List.Sublist.slnil))))))).subset hq_) ?_
      rw [show (((l : Nat) : Int) + 1 : Int) = ((l + 1 : Nat) : Int) from by omega]
      exact ih (l + 1) _ (by omega) (by omega) (by omega)
  exact key 33 0 1000000 (by omega) (by omega) (by omega)
theorem whyP_0 {P : pRow} {p n d : Nat} (h : whyP P p n d = 0) : P 3 ≤ (n : Int) ∧ (n : Int) ≤ P 4 ∧ (d : Int) ≤ P 1 ∧ d ≤ p ∧ ((p + n : Nat) : Int) ≤ P 0 ∧ n ≤ sm P p d ∧ isCd P p (p - d) ∧ ¬ pinB P p n := by
  unfold whyP at h
  by_cases h1 : P 3 ≤ (n : Int) ∧ (n : Int) ≤ P 4
  · rw [if_neg (fun z => z h1)] at h
    by_cases h2 : P 1 < (d : Int)
    · rw [if_pos h2] at h; exact absurd h (by decide)
    · rw [if_neg h2] at h
      by_cases h3 : p < d
      · rw [if_pos h3] at h; exact absurd h (by decide)
      · rw [if_neg h3] at h
        by_cases h4 : P 0 < ((p + n : Nat) : Int)
        · rw [if_pos h4] at h; exact absurd h (by decide)
        · rw [if_neg h4] at h
          by_cases h5 : sm P p d < n
          · rw [if_pos h5] at h; exact absurd h (by decide)
          · rw [if_neg h5] at h
            by_cases h6 : isCd P p (p - d)
            · rw [if_neg (fun z => z h6)] at h
              by_cases h7 : pinB P p n
              · rw [if_pos h7] at h; exact absurd h (by decide)
              · exact ⟨h1.1, h1.2, by omega, by omega, by omega, by omega, h6, h7⟩
            · rw [if_pos h6] at h; exact absurd h (by decide)
  · rw [if_pos h1] at h; exact absurd h (by decide)
theorem whyP_b {P : pRow} {p n d : Nat} : 0 ≤ whyP P p n d ∧ whyP P p n d ≤ 7 := by
  unfold whyP
  repeat' split
  all_goals exact ⟨by decide, by decide⟩
noncomputable def vWo (P : pRow) (p n d : Nat) : Int := if whyP P p n d ≠ 0 then -1 else chW P p n d - bPr P
theorem ma2_12 {p q : Prop} [Decidable p] [Decidable q] (h : ¬ (p ∧ q)) : ma2 p q = 1 ∨ ma2 p q = 2 := by
  unfold ma2
  by_cases hp : p
  · rw [if_neg (fun z => z hp), if_neg (fun hq => h ⟨hp, hq⟩)]; exact Or.inr rfl
  · rw [if_pos hp]; exact Or.inl rfl
theorem c_X4_worth (hM : MdL h o) (hP : gI h (o + 1) = P) (hw : pWf P) (a : Int) (ha : jr a) (b : Int) (hb : jr b) (c : Int) (hc : jr c) : zM G zX4_worth 6 [.ref o, .int (jI a), .int (jI b), .int (jI c)] h (zAn o (ma2 (0 ≤ a ∧ a < P 0) ((1 ≤ b ∧ b ≤ 64) ∧ (1 ≤ c ∧ c ≤ 64))) (vWo P a.toNat b.toNat c.toNat) h) := by
  obtain ⟨w0, w0b, w1, w1b, w2, w2b, w3, w3b, w4, w4b, w5, w5b, wp, wl, wn⟩ := id hw
  refine zM.ofV (lv := [(0, .ref o), (1, .int (jI (a))), (2, .int (jI (b))), (3, .int (jI (c)))]) (by decide +kernel) (Nat.le_of_ble_eq_true rfl) rfl ?_
  refine zV_aload_n 0 dX4_worth_0 rfl rfl (Or.inr ⟨_, rfl⟩) ?_
  refine zV_aload_n 0 dX4_worth_1 rfl rfl (Or.inr ⟨_, rfl⟩) ?_
  refine zV_iload_n 1 dX4_worth_2 rfl rfl ?_
  refine zc_V (y' := zX4_isPlace) (as := [.int (jI (a))]) (rest := [.ref o]) (ci := 3) (q := (RX4, TX4, 27)) bX4_isPlace dX4_worth_3 q2256 q2258 qs90 (md_k hM) rfl (c_X4_isPlace hM hP hw a ha) rfl rfl (by decide) (Nat.le_of_ble_eq_true rfl) (by decide) (zk_J1 ?_)
  refine zV_iload_n 2 dX4_worth_6 rfl rfl ?_
  refine zV_iload_n 3 dX4_worth_7 rfl rfl ?_
  refine zc_S (y' := zX4_isCopyNumber) (as := [.int (jI (b)), .int (jI (c))]) (rest := [.int (jI (bI (0 ≤ a ∧ a < P 0))), .ref o]) bX4_isCopyNumber dX4_worth_8 q2280 q2281 (c_X4_isCopyNumber b hb c hc) rfl rfl (by decide) (Nat.le_of_ble_eq_true rfl) (zk_J1 ?_)
  refine zc_V (y' := zX4_mayTwo) (as := [.int (jI (bI (0 ≤ a ∧ a < P 0))), .int (jI (bI ((1 ≤ b ∧ b ≤ 64) ∧ (1 ≤ c ∧ c ≤ 64))))]) (rest := []) (ci := 3) (q := (RX4, TX4, 27)) bX4_mayTwo dX4_worth_11 q2145 q2147 qs70 (md_k hM) rfl (c_X4_mayTwo hM (0 ≤ a ∧ a < P 0) ((1 ≤ b ∧ b ≤ 64) ∧ (1 ≤ c ∧ c ≤ 64))) rfl rfl (by decide) (Nat.le_of_ble_eq_true rfl) (by decide) (zk_I (fun z h1 ⟨ez, i0⟩ _ => ?_))
  subst ez
  have hM1 : MdL h1 o := hM.ch i0.1
  have hP1 : gI h1 (o + 1) = P := (i0.1.row (by simp)).trans hP
  by_cases cm : (0 ≤ a ∧ a < P 0) ∧ ((1 ≤ b ∧ b ≤ 64) ∧ (1 ≤ c ∧ c ≤ 64))
  · refine zV.eq (show (bI ((0 ≤ a ∧ a < P 0) ∧ ((1 ≤ b ∧ b ≤ 64) ∧ (1 ≤ c ∧ c ≤ 64))) : Int) = 1 from bI_t cm) ?_
    refine zV_jif_eq 27 dX4_worth_14 rfl ⟨by decide, by decide⟩ (fun c_ => absurd c_ (by decide)) (fun _ => ?_)
    obtain ⟨p, rfl⟩ : ∃ n_ : Nat, a = (n_ : Int) := ⟨(a).toNat, by omega⟩
    obtain ⟨n, rfl⟩ : ∃ n_ : Nat, b = (n_ : Int) := ⟨(b).toNat, by omega⟩
    obtain ⟨d, rfl⟩ : ∃ n_ : Nat, c = (n_ : Int) := ⟨(c).toNat, by omega⟩
    refine zV_aload_n 0 dX4_worth_17 rfl rfl (Or.inr ⟨_, rfl⟩) ?_
    refine zV_iload_n 1 dX4_worth_18 rfl rfl ?_
    refine zV_iload_n 2 dX4_worth_19 rfl rfl ?_
    refine zV_iload_n 3 dX4_worth_20 rfl rfl ?_
    refine zc_V (y' := zX4_reason) (as := [.int (jI (((p : Nat) : Int))), .int (jI (((n : Nat) : Int))), .int (jI (((d : Nat) : Int)))]) (rest := []) (ci := 3) (q := (RX4, TX4, 27)) bX4_reason dX4_worth_21 q2283 q2285 qs94 (md_k hM1) rfl (c_X4_reason hM1 hP1 hw p n d (by omega) (by omega) (by omega) (by omega)) rfl rfl (by decide) (Nat.le_of_ble_eq_true rfl) (by decide) (zk_I (fun z h2 ⟨ez, eh⟩ _ => ?_))
    subst ez; subst h2
    refine zV_jif_eq 40 dX4_worth_24 rfl ⟨by have := whyP_b (P := P) (p := p) (n := n) (d := d); omega, by have := whyP_b (P := P) (p := p) (n := n) (d := d); omega⟩ (fun cw => ?_) (fun cw => ?_)
    · have hw0 := whyP_0 cw
      refine zV_aload_n 0 dX4_worth_40 rfl rfl (Or.inr ⟨_, rfl⟩) ?_
      refine zc_V (y' := zX4_laysRest) (as := []) (rest := []) (ci := 3) (q := (RX4, TX4, 27)) bX4_laysRest dX4_worth_41 q2317 q2319 qs98 (md_k hM1) rfl (c_X4_laysRest hM1 hP1 hw) rfl rfl (by decide) (Nat.le_of_ble_eq_true rfl) (by decide) (zk_I (fun z h2 ⟨ez, j1, j2, j3⟩ _ => ?_))
      subst ez
      have hM2 : MdL h2 o := hM1.io j1
      have hP2 : gI h2 (o + 1) = P := (j1.row (by simp)).trans hP1
      have c1 : zCh [o + 6, o + 7] o [] h1 h2 := zCh.io j1 (by simp)
      refine zV_istore (lv' := [(0, .ref o), (1, .int (jI (((p : Nat) : Int)))), (2, .int (jI (((n : Nat) : Int)))), (3, .int (jI (((d : Nat) : Int)))), (4, .int (jI (bPr P)))]) dX4_worth_44 (by decide) rfl rfl ?_
      refine zV_aload_n 0 dX4_worth_46 rfl rfl (Or.inr ⟨_, rfl⟩) ?_
      refine zc_V (y' := zX4_laysFore) (as := []) (rest := []) (ci := 3) (q := (RX4, TX4, 27)) bX4_laysFore dX4_worth_47 q2421 q2423 qs118 (md_k hM2) rfl (c_X4_laysFore hM2 hP2 hw j2) rfl rfl (by decide) (Nat.le_of_ble_eq_true rfl) (by decide) (zk_V (fun h3 ⟨k1, k2⟩ _ => ?_))
      have hM3 : MdL h3 o := hM2.io k1
      have hP3 : gI h3 (o + 1) = P := (k1.row (by simp)).trans hP2
      have k3 : ∀ j, j < 66 * ((P 0).toNat + 1) → gI h3 (o + 7) j = rt P j := fun j hj => by rw [k1.row (by simp)]; exact j3 j hj
      have c2 : zCh [o + 6, o + 7, o + 8] o [] h1 h3 := (c1.mono (by simp) (by simp)).tr (zCh.io (k1.mono (by simp)) (by simp))
      refine zV_aload_n 0 dX4_worth_50 rfl rfl (Or.inr ⟨_, rfl⟩) ?_
      refine zV_iload_n 1 dX4_worth_51 rfl rfl ?_
      refine zV_iload_n 2 dX4_worth_52 rfl rfl ?_
      refine zV_iload_n 3 dX4_worth_53 rfl rfl ?_
      refine zc_V (y' := zX4_cheapestWith) (as := [.int (jI (((p : Nat) : Int))), .int (jI (((n : Nat) : Int))), .int (jI (((d : Nat) : Int)))]) (rest := []) (ci := 3) (q := (RX4, TX4, 27)) bX4_cheapestWith dX4_worth_54 q2441 q2443 qs122 (md_k hM3) rfl (c_X4_cheapestWith hM3 hP3 hw k2 k3 p n d (by omega) (by omega)) rfl rfl (by decide) (Nat.le_of_ble_eq_true rfl) (by decide) (zk_J1 ?_)
      refine zV_iload dX4_worth_57 rfl ?_
      refine zV_jsub dX4_worth_59 ?_
      exact zV_ireturn dX4_worth_60 rfl rfl ⟨_, rfl, i0.go c2 (by simp) (by simp) (by simp), fun _ => by simp only [Int.toNat_natCast]; rw [vWo, if_neg (fun z => z cw)]⟩
    · refine zV_aload_n 0 dX4_worth_27 rfl rfl (Or.inr ⟨_, rfl⟩) ?_
      refine zV_tgetf (ci := 3) (q := (RX4, TX4, 27)) 0 dX4_worth_28 q1917 (md_k hM1) rfl (by decide) rfl (by decide) ?_
      refine zV.eq (show ((zI h1 o 0).toInt : Int) = 0 from i0.2.trans (ma2_iff.mpr cm)) ?_
      refine zV_jif_le 38 dX4_worth_31 rfl ⟨by decide, by decide⟩ (fun _ => ?_) (fun c_ => absurd c_ (by decide))
      refine zV_iconst (n := (-1)) dX4_worth_38 ?_
      exact zV_ireturn dX4_worth_39 rfl rfl ⟨_, rfl, i0.go0, fun _ => by simp only [Int.toNat_natCast]; rw [vWo, if_pos cw]⟩
  · refine zV.eq (show (bI ((0 ≤ a ∧ a < P 0) ∧ ((1 ≤ b ∧ b ≤ 64) ∧ (1 ≤ c ∧ c ≤ 64))) : Int) = 0 from bI_f cm) ?_
    refine zV_jif_eq 27 dX4_worth_14 rfl ⟨by decide, by decide⟩ (fun _ => ?_) (fun c_ => absurd c_ (by decide))
    refine zV_aload_n 0 dX4_worth_27 rfl rfl (Or.inr ⟨_, rfl⟩) ?_
    refine zV_tgetf (ci := 3) (q := (RX4, TX4, 27)) 0 dX4_worth_28 q1917 (md_k hM1) rfl (by decide) rfl (by decide) ?_
    refine zV.eq (show ((zI h1 o 0).toInt : Int) = ma2 (0 ≤ a ∧ a < P 0) ((1 ≤ b ∧ b ≤ 64) ∧ (1 ≤ c ∧ c ≤ 64)) from i0.2) ?_
    have hmc : ma2 (0 ≤ a ∧ a < P 0) ((1 ≤ b ∧ b ≤ 64) ∧ (1 ≤ c ∧ c ≤ 64)) = 1 ∨ ma2 (0 ≤ a ∧ a < P 0) ((1 ≤ b ∧ b ≤ 64) ∧ (1 ≤ c ∧ c ≤ 64)) = 2 := ma2_12 cm
    refine zV_jif_le 38 dX4_worth_31 rfl ⟨by omega, by omega⟩ (fun c_ => absurd c_ (by omega)) (fun _ => ?_)
    refine zV_iconst (n := 0) dX4_worth_34 ?_
    refine zV_goto 39 dX4_worth_35 rfl ?_
    exact zV_ireturn dX4_worth_39 rfl rfl ⟨_, rfl, i0.go0, fun e => absurd e (ma2_ne cm)⟩
end M13
