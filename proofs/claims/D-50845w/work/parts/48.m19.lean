/-! ===== THE MODEL, 19: input (printed by a program of gen/) ===== -/
set_option maxRecDepth 100000
section M19
variable {G : zG} {h : zH} {o : Nat} {P : pRow}
def by8 (v s : Int) : Int := i8 (((jI v) >>> ((jI s) &&& 31)).toInt8.toInt32)
def puN (v : Int) : Nat → Nat × pRow → Nat × pRow
  | 0, I => I
  | n + 1, I => puN v n (puB I (by8 v ((8 * n : Nat) : Int)))
def pu4 (I : Nat × pRow) (v : Int) : Nat × pRow := puN v 4 I
theorem puN_1 (v : Int) : ∀ (n : Nat) (I : Nat × pRow), (puN v n I).1 = I.1 + n
  | 0, _ => rfl
  | n + 1, I => by rw [puN, puN_1 v n]; show I.1 + 1 + n = _; omega
theorem pu4_1 (v : Int) (I : Nat × pRow) : (pu4 I v).1 = I.1 + 4 := puN_1 v 4 I
theorem mdI_put8 {I : Nat × pRow} (a : mdI h o I) (hI : I.1 < 500) (v s : Int) : mdI (sI (sI h (o + 12) I.1 ((jI v) >>> ((jI s) &&& 31)).toInt8.toInt32.toInt8.toInt32) o 16 (jI ((I.1 + 1 : Nat) : Int))) o (puB I (by8 v s)) := mdI_put a hI _
theorem c_X4_puts4 (hM : MdL h o) {I : Nat × pRow} (hI : mdI h o I) (h4 : I.1 + 4 ≤ 500) (v : Int) : zM G zX4_puts4 0 [.ref o, .int (jI v)] h (zOkV (fun h1 => zCh [o + 12] o [16] h h1 ∧ mdI h1 o (pu4 I v))) := by
  refine zM.ofV (lv := [(0, .ref o), (1, .int (jI (v)))]) (by decide +kernel) (Nat.le_of_ble_eq_true rfl) rfl ?_
  refine zV_jbipush dX4_puts4_0 (by decide) ?_
  refine zV_istore_n (lv' := [(0, .ref o), (1, .int (jI (v))), (2, .int (jI (24)))]) 2 dX4_puts4_2 rfl (by decide) rfl rfl ?_
  have key : ∀ (n : Nat) (I : Nat × pRow) (g : zH), n ≤ 4 → zCh [o + 12] o [16] h g → mdI g o I → I.1 + n ≤ 500 → zV G zX4_puts4 0 3 [(0, .ref o), (1, .int (jI (v))), (2, .int (jI (((8 * n : Nat) : Int) - 8)))] [] g (zOkV (fun h1 => zCh [o + 12] o [16] h h1 ∧ mdI h1 o (puN v n I))) := by
    intro n
    induction n with
    | zero =>
      intro I g h1 k0 hI h4
      have hM2 := hM.ch k0
      refine zV_iload_n 2 dX4_puts4_3 rfl rfl ?_
      refine zV_jif_lt 36 dX4_puts4_4 rfl ⟨by omega, by omega⟩ (fun _ => ?_) (fun c_ => absurd c_ (by omega))
      exact zV_return dX4_puts4_36 rfl ⟨rfl, k0, hI⟩
    | succ n ih =>
      intro I g h1 k0 hI h4
      have hM2 := hM.ch k0
      refine zV_iload_n 2 dX4_puts4_3 rfl rfl ?_
      refine zV_jif_lt 36 dX4_puts4_4 rfl ⟨by omega, by omega⟩ (fun c_ => absurd c_ (by omega)) (fun _ => ?_)
      refine zV_aload_n 0 dX4_puts4_7 rfl rfl (Or.inr ⟨_, rfl⟩) ?_
      refine zV_getf (v := .ref (o + 12)) (ci := 3) (q := (RX4, TX4, 27)) 15 dX4_puts4_8 q1932 (md_k hM2) rfl (by decide) (congrArg va_rf (md_r_input hM2)) (by decide) ?_
      refine zV_aload_n 0 dX4_puts4_11 rfl rfl (Or.inr ⟨_, rfl⟩) ?_
      refine zV_tgetf (ci := 3) (q := (RX4, TX4, 27)) 16 dX4_puts4_12 q1933 (md_k hM2) rfl (by decide) rfl (by decide) ?_
      refine zV.eq (show ((zI g o 16).toInt : Int) = ((I.1 : Nat) : Int) from hI.1) ?_
      refine zV_iload_n 1 dX4_puts4_15 rfl rfl ?_
      refine zV_iload_n 2 dX4_puts4_16 rfl rfl ?_
      refine zV.eq (show (((8 * (n + 1) : Nat) : Int) - 8 : Int) = ((8 * n : Nat) : Int) from by omega) ?_
      refine zV_ishr dX4_puts4_17 ?_
      refine zV_i2b dX4_puts4_18 ?_
      refine zV_jbast (x := ((jI (v)) >>> ((jI (((8 * n : Nat) : Int))) &&& 31)).toInt8.toInt32) I.1 500 dX4_puts4_19 (md_k_input hM2) (Nat.le_trans (md_ge hM2) (by omega)) (md_z_input hM2) (by omega) (by omega) (by omega) ?_
      refine zV_aload_n 0 dX4_puts4_20 rfl rfl (Or.inr ⟨_, rfl⟩) ?_
      refine zV_aload_n 0 dX4_puts4_21 rfl rfl (Or.inr ⟨_, rfl⟩) ?_
      refine zV_tgetf (ci := 3) (q := (RX4, TX4, 27)) 16 dX4_puts4_22 q1933 (md_k hM2) rfl (by decide) rfl (by decide) ?_
      refine zV.eq (show ((zI (sI g (o + 12) I.1 (((jI (v)) >>> ((jI (((8 * n : Nat) : Int))) &&& 31)).toInt8.toInt32).toInt8.toInt32) o 16).toInt : Int) = ((I.1 : Nat) : Int) from (gI_ne (by omega)).trans hI.1) ?_
      refine zV_iconst (n := 1) dX4_puts4_25 ?_
      refine zV_jadd dX4_puts4_26 ?_
      refine zV.eq (show (((I.1 : Nat) : Int) + 1 : Int) = ((I.1 + 1 : Nat) : Int) from by omega) ?_
      refine zV_putI (x := jI (((I.1 + 1 : Nat) : Int))) (ci := 3) (q := (RX4, TX4, 27)) 16 dX4_puts4_27 q1933 (md_ge hM2) (md_k hM2) rfl (by decide) rfl (fun _ _ => rfl) rfl rfl (by decide) ?_
      refine zV_jinc (lv' := [(0, .ref o), (1, .int (jI (v))), (2, .int (jI ((((8 * (n + 1) : Nat) : Int) - 8) + (-8))))]) dX4_puts4_30 rfl (by decide) rfl rfl ?_
      refine zV_goto 3 dX4_puts4_33 rfl ?_
      rw [show ((((8 * (n + 1) : Nat) : Int) - 8) + (-8) : Int) = ((8 * n : Nat) : Int) - 8 from by omega]
      exact ih _ _ (by omega) ((k0.put (by simp) (by omega)).puto (by simp)) (mdI_put8 hI (by omega) v _) (by show I.1 + 1 + n ≤ 500; omega)
  rw [show (24 : Int) = ((8 * 4 : Nat) : Int) - 8 from by rfl]
  exact key 4 I h (Nat.le_refl _) zCh.rf hI h4
def pu20 (I : Nat × pRow) (a b c d e : Int) : Nat × pRow := pu4 (pu4 (pu4 (pu4 (pu4 I a) b) c) d) e
theorem c_X4_appendInput {L : List pRow} {K : Option pRow} {I U : Nat × pRow} {E : Int × Int} (hS : MdS h o (P, L, K, I, E, U)) (a b c d e : Int) : zM G zX4_appendInput 1 [.ref o, .int (jI a), .int (jI b), .int (jI c), .int (jI d), .int (jI e)] h (zDo o (if 480 < I.1 then -1 else ((pu20 I a b c d e).1 : Int)) (P, L, K, (if 480 < I.1 then I else pu20 I a b c d e), E, U)) := by
  have hM : MdL h o := hS.1; have hP : gI h (o + 1) = P := hS.2.1.1; have hw : pWf P := hS.2.1.2.1; have hMA : mdA h o L := hS.2.2.1; obtain ⟨hA, hA8, hAll, hAR⟩ := hMA
  obtain ⟨w0, w0b, w1, w1b, w2, w2b, w3, w3b, w4, w4b, w5, w5b, wp, wl, wn⟩ := id hw
  refine zM.ofV (lv := [(0, .ref o), (1, .int (jI (a))), (2, .int (jI (b))), (3, .int (jI (c))), (4, .int (jI (d))), (5, .int (jI (e)))]) (by decide +kernel) (Nat.le_of_ble_eq_true rfl) rfl ?_
  refine zV_aload_n 0 dX4_appendInput_0 rfl rfl (Or.inr ⟨_, rfl⟩) ?_
  refine zV_iconst (n := 0) dX4_appendInput_1 ?_
  refine zV_putI (x := jI (0)) (ci := 3) (q := (RX4, TX4, 27)) 0 dX4_appendInput_2 q1917 (md_ge hM) (md_k hM) rfl (by decide) rfl (fun _ _ => rfl) rfl rfl (by decide) ?_
  have c0 : zCh [] o [0] h (sI h o 0 (jI 0)) := zCh.rf.puto (by simp)
  have t0 : gI (sI h o 0 (jI 0)) o 0 = 0 := gI_put_s ⟨by decide, by decide⟩
  have hS0 := hS.sc (c0.mono (by simp) (by simp))
  generalize sI h o 0 (jI 0) = h0 at c0 t0 hS0 ⊢
  have hM0 : MdL h0 o := hS0.1
  have hP0 : gI h0 (o + 1) = P := hS0.2.1.1
  have hI0 : mdI h0 o I := hS0.2.2.2.2.1
  have hI1 := hI0.2.1
  refine zV_aload_n 0 dX4_appendInput_5 rfl rfl (Or.inr ⟨_, rfl⟩) ?_
  refine zV_tgetf (ci := 3) (q := (RX4, TX4, 27)) 16 dX4_appendInput_6 q1933 (md_k hM0) rfl (by decide) rfl (by decide) ?_
  refine zV.eq (show ((zI h0 o 16).toInt : Int) = ((I.1 : Nat) : Int) from hI0.1) ?_
  refine zV_jsipush dX4_appendInput_9 (by decide) ?_
  refine zV_jcmp_le 17 dX4_appendInput_12 rfl ⟨by omega, by omega⟩ ⟨by decide, by decide⟩ (fun c1 => ?_) (fun c1 => ?_)
  · refine zV_aload_n 0 dX4_appendInput_17 rfl rfl (Or.inr ⟨_, rfl⟩) ?_
    refine zV_iload_n 1 dX4_appendInput_18 rfl rfl ?_
    refine zc_V (y' := zX4_puts4) (as := [.int (jI (a))]) (rest := []) (ci := 3) (q := (RX4, TX4, 27)) bX4_puts4 dX4_appendInput_19 q2004 q2006 qs46 (md_k hM0) rfl (c_X4_puts4 hM0 hI0 (by first | omega | (simp only [pu4_1]; omega)) a) rfl rfl (by decide) (Nat.le_of_ble_eq_true rfl) (by decide) (zk_V (fun f0 ⟨e0, q0⟩ _ => ?_))
    have d0 : zCh [o + 12] o [16] h0 f0 := (zCh.rf : zCh [o + 12] o [16] h0 h0).tr e0
    have m0 := hM0.ch d0
    refine zV_aload_n 0 dX4_appendInput_22 rfl rfl (Or.inr ⟨_, rfl⟩) ?_
    refine zV_iload_n 2 dX4_appendInput_23 rfl rfl ?_
    refine zc_V (y' := zX4_puts4) (as := [.int (jI (b))]) (rest := []) (ci := 3) (q := (RX4, TX4, 27)) bX4_puts4 dX4_appendInput_24 q2004 q2006 qs46 (md_k m0) rfl (c_X4_puts4 m0 q0 (by first | omega | (simp only [pu4_1]; omega)) b) rfl rfl (by decide) (Nat.le_of_ble_eq_true rfl) (by decide) (zk_V (fun f1 ⟨e1, q1⟩ _ => ?_))
    have d1 : zCh [o + 12] o [16] h0 f1 := d0.tr e1
    have m1 := hM0.ch d1
    refine zV_aload_n 0 dX4_appendInput_27 rfl rfl (Or.inr ⟨_, rfl⟩) ?_
    refine zV_iload_n 3 dX4_appendInput_28 rfl rfl ?_
    refine zc_V (y' := zX4_puts4) (as := [.int (jI (c))]) (rest := []) (ci := 3) (q := (RX4, TX4, 27)) bX4_puts4 dX4_appendInput_29 q2004 q2006 qs46 (md_k m1) rfl (c_X4_puts4 m1 q1 (by first | omega | (simp only [pu4_1]; omega)) c) rfl rfl (by decide) (Nat.le_of_ble_eq_true rfl) (by decide) (zk_V (fun f2 ⟨e2, q2⟩ _ => ?_))
    have d2 : zCh [o + 12] o [16] h0 f2 := d1.tr e2
    have m2 := hM0.ch d2
    refine zV_aload_n 0 dX4_appendInput_32 rfl rfl (Or.inr ⟨_, rfl⟩) ?_
    refine zV_iload dX4_appendInput_33 rfl ?_
    refine zc_V (y' := zX4_puts4) (as := [.int (jI (d))]) (rest := []) (ci := 3) (q := (RX4, TX4, 27)) bX4_puts4 dX4_appendInput_35 q2004 q2006 qs46 (md_k m2) rfl (c_X4_puts4 m2 q2 (by first | omega | (simp only [pu4_1]; omega)) d) rfl rfl (by decide) (Nat.le_of_ble_eq_true rfl) (by decide) (zk_V (fun f3 ⟨e3, q3⟩ _ => ?_))
    have d3 : zCh [o + 12] o [16] h0 f3 := d2.tr e3
    have m3 := hM0.ch d3
    refine zV_aload_n 0 dX4_appendInput_38 rfl rfl (Or.inr ⟨_, rfl⟩) ?_
    refine zV_iload dX4_appendInput_39 rfl ?_
    refine zc_V (y' := zX4_puts4) (as := [.int (jI (e))]) (rest := []) (ci := 3) (q := (RX4, TX4, 27)) bX4_puts4 dX4_appendInput_41 q2004 q2006 qs46 (md_k m3) rfl (c_X4_puts4 m3 q3 (by first | omega | (simp only [pu4_1]; omega)) e) rfl rfl (by decide) (Nat.le_of_ble_eq_true rfl) (by decide) (zk_V (fun f4 ⟨e4, q4⟩ _ => ?_))
    have d4 : zCh [o + 12] o [16] h0 f4 := d3.tr e4
    have m4 := hM0.ch d4
    refine zV_aload_n 0 dX4_appendInput_44 rfl rfl (Or.inr ⟨_, rfl⟩) ?_
    refine zV_tgetf (ci := 3) (q := (RX4, TX4, 27)) 16 dX4_appendInput_45 q1933 (md_k m4) rfl (by decide) rfl (by decide) ?_
    refine zV.eq (show ((zI f4 o 16).toInt : Int) = (((pu4 (pu4 (pu4 (pu4 (pu4 I a) b) c) d) e).1 : Nat) : Int) from q4.1) ?_
    exact zV_ireturn dX4_appendInput_48 rfl rfl ⟨_, rfl, by rw [if_neg (by omega)]; rfl, by rw [if_neg (by omega)]; exact ⟨m4, hS0.2.1.ch d4 (by simp), hS0.2.2.1.ch d4 (by simp) (by simp), hS0.2.2.2.1.ch d4 (by simp) (by simp), q4, hS0.2.2.2.2.2.1.ch d4 (by simp) (by simp), hS0.2.2.2.2.2.2.ch d4 (by simp) (by simp)⟩⟩
  · refine zV_iconst (n := (-1)) dX4_appendInput_15 ?_
    exact zV_ireturn dX4_appendInput_16 rfl rfl ⟨_, rfl, by rw [if_pos (by omega)], by rw [if_pos (by omega)]; exact hS0⟩
end M19
