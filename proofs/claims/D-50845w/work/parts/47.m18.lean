/-! ===== THE MODEL, 18: undo, save, input, output (printed by a program of gen/) ===== -/
set_option maxRecDepth 100000
section M18
variable {G : zG} {h : zH} {o : Nat} {P : pRow}
/-- an answer without a throw; the state is A' -/
def zDo (o : Nat) (v : Int) (A' : mSt) : zO → zH → Prop := zOkI (fun z h1 => z = v ∧ MdS h1 o A')
/-- a byte more -/
def puB (I : Nat × pRow) (b : Int) : Nat × pRow := (I.1 + 1, fun j => if j = I.1 then b else I.2 j)
def i8 (x : Int32) : Int := x.toInt8.toInt32.toInt
theorem i8_eq {c : Int} (h : 0 ≤ c ∧ c < 128) : i8 (jI c) = c := by
  obtain ⟨n, rfl⟩ := Int.eq_ofNat_of_zero_le h.1
  have key : ∀ n : Nat, n < 128 → i8 (jI (n : Int)) = (n : Int) := by decide
  exact key n (by omega)
theorem mdI_put {I : Nat × pRow} (a : mdI h o I) (hI : I.1 < 500) (x : Int32) : mdI (sI (sI h (o + 12) I.1 x.toInt8.toInt32) o 16 (jI ((I.1 + 1 : Nat) : Int))) o (puB I (i8 x)) := by
  refine ⟨gI_put_s ⟨by omega, by omega⟩, by show I.1 + 1 ≤ 500; omega, fun j hj => ?_⟩
  have hj2 : j < I.1 + 1 := hj
  rw [gI_ne (by omega)]
  show (zu2 (zI h) (o + 12) I.1 x.toInt8.toInt32 (o + 12) j).toInt = if j = I.1 then i8 x else I.2 j
  unfold zu2
  by_cases e : j = I.1
  · rw [if_pos ⟨rfl, e⟩, if_pos e]; rfl
  · rw [if_neg (fun z => e z.2), if_neg e]; exact a.2.2 j (by omega)
theorem mdU_put {U : Nat × pRow} (a : mdU h o U) (hU : U.1 < 600) (x : Int32) : mdU (sI (sI h (o + 15) U.1 x.toInt8.toInt32) o 26 (jI ((U.1 + 1 : Nat) : Int))) o (puB U (i8 x)) := by
  refine ⟨gI_put_s ⟨by omega, by omega⟩, by show U.1 + 1 ≤ 600; omega, fun j hj => ?_⟩
  have hj2 : j < U.1 + 1 := hj
  rw [gI_ne (by omega)]
  show (zu2 (zI h) (o + 15) U.1 x.toInt8.toInt32 (o + 15) j).toInt = if j = U.1 then i8 x else U.2 j
  unfold zu2
  by_cases e : j = U.1
  · rw [if_pos ⟨rfl, e⟩, if_pos e]; rfl
  · rw [if_neg (fun z => e z.2), if_neg e]; exact a.2.2 j (by omega)
def laL (P : pRow) (L : List pRow) : pRow := (L.getLast?).getD P
theorem laL_mem {P : pRow} {L : List pRow} (h : 0 < L.length) : L[L.length - 1]? = some (laL P L) := by
  unfold laL
  rw [List.getLast?_eq_getElem?]
  cases hx : L[L.length - 1]? with
  | none => rw [List.getElem?_eq_none_iff] at hx; omega
  | some X => rfl
theorem paR_dl {R : pRow} {L : List pRow} (h : paR R L) : paR R L.dropLast := by
  intro i X hX
  rw [List.getElem?_dropLast] at hX
  split at hX
  · exact h i X hX
  · exact absurd hX (by simp)
theorem c_X4_undo {L : List pRow} {K : Option pRow} {I U : Nat × pRow} {E : Int × Int} (hS : MdS h o (P, L, K, I, E, U)) : zM G zX4_undo 3 [.ref o] h (zCg o (ma1 (0 < L.length)) ((L.length - 1 : Nat) : Int) (P, L, K, I, E, U) (laL P L, L.dropLast, K, I, E, U)) := by
  have hM : MdL h o := hS.1; have hP : gI h (o + 1) = P := hS.2.1.1; have hw : pWf P := hS.2.1.2.1; have hMA : mdA h o L := hS.2.2.1; obtain ⟨hA, hA8, hAll, hAR⟩ := hMA
  obtain ⟨w0, w0b, w1, w1b, w2, w2b, w3, w3b, w4, w4b, w5, w5b, wp, wl, wn⟩ := id hw
  refine zM.ofV (lv := [(0, .ref o)]) (by decide +kernel) (Nat.le_of_ble_eq_true rfl) rfl ?_
  refine zV_aload_n 0 dX4_undo_0 rfl rfl (Or.inr ⟨_, rfl⟩) ?_
  refine zV_aload_n 0 dX4_undo_1 rfl rfl (Or.inr ⟨_, rfl⟩) ?_
  refine zV_tgetf (ci := 3) (q := (RX4, TX4, 27)) 6 dX4_undo_2 q1923 (md_k hM) rfl (by decide) rfl (by decide) ?_
  refine zV.eq (show ((zI h o 6).toInt : Int) = ((L.length : Nat) : Int) from hA) ?_
  refine zV_jif_le 12 dX4_undo_5 rfl ⟨by omega, by omega⟩ (fun c1 => ?_) (fun c1 => ?_)
  · refine zV_iconst (n := 0) dX4_undo_12 ?_
    refine zV.eq (show (0 : Int) = bI (0 < L.length) from (bI_f (by omega)).symm) ?_
    refine zc_V (y' := zX4_mayOne) (as := [.int (jI (bI (0 < L.length)))]) (rest := []) (ci := 3) (q := (RX4, TX4, 27)) bX4_mayOne dX4_undo_13 q2141 q2143 qs69 (md_k hM) rfl (c_X4_mayOne hM (0 < L.length)) rfl rfl (by decide) (Nat.le_of_ble_eq_true rfl) (by decide) (zk_I (fun z h1 ⟨ez, i0⟩ _ => ?_))
    subst ez
    have hM1 : MdL h1 o := hM.ch i0.1
    have hP1 : gI h1 (o + 1) = P := (i0.1.row (by simp)).trans hP
    by_cases cm : 0 < L.length
    · exact absurd cm (by omega)
    · refine zV.eq (show (bI (0 < L.length) : Int) = 0 from bI_f cm) ?_
      refine zV_jif_ne 21 dX4_undo_16 rfl ⟨by decide, by decide⟩ (fun c_ => absurd c_ (by decide)) (fun _ => ?_)
      refine zV_iconst (n := 0) dX4_undo_19 ?_
      exact zV_ireturn dX4_undo_20 rfl rfl ⟨_, rfl, i0.2, fun e => absurd e (ma1_ne cm), fun _ => hS.sc i0.go0.1⟩
  · refine zV_iconst (n := 1) dX4_undo_8 ?_
    refine zV_goto 13 dX4_undo_9 rfl ?_
    refine zV.eq (show (1 : Int) = bI (0 < L.length) from (bI_t (by omega)).symm) ?_
    refine zc_V (y' := zX4_mayOne) (as := [.int (jI (bI (0 < L.length)))]) (rest := []) (ci := 3) (q := (RX4, TX4, 27)) bX4_mayOne dX4_undo_13 q2141 q2143 qs69 (md_k hM) rfl (c_X4_mayOne hM (0 < L.length)) rfl rfl (by decide) (Nat.le_of_ble_eq_true rfl) (by decide) (zk_I (fun z h1 ⟨ez, i0⟩ _ => ?_))
    subst ez
    have hM1 : MdL h1 o := hM.ch i0.1
    have hP1 : gI h1 (o + 1) = P := (i0.1.row (by simp)).trans hP
    by_cases cm : 0 < L.length
    · refine zV.eq (show (bI (0 < L.length) : Int) = 1 from bI_t cm) ?_
      refine zV_jif_ne 21 dX4_undo_16 rfl ⟨by decide, by decide⟩ (fun _ => ?_) (fun c_ => absurd c_ (by decide))
      have hS1 := hS.sc i0.go0.1
      have gMA : mdA h1 o L := hS1.2.2.1
      obtain ⟨gA, gA8, gAll, gAR⟩ := gMA
      refine zV_aload_n 0 dX4_undo_21 rfl rfl (Or.inr ⟨_, rfl⟩) ?_
      refine zV_aload_n 0 dX4_undo_22 rfl rfl (Or.inr ⟨_, rfl⟩) ?_
      refine zV_tgetf (ci := 3) (q := (RX4, TX4, 27)) 6 dX4_undo_23 q1923 (md_k hM1) rfl (by decide) rfl (by decide) ?_
      refine zV.eq (show ((zI h1 o 6).toInt : Int) = ((L.length : Nat) : Int) from gA) ?_
      refine zV_iconst (n := 1) dX4_undo_26 ?_
      refine zV_jsub dX4_undo_27 ?_
      refine zV.eq (show (((L.length : Nat) : Int) - 1 : Int) = ((L.length - 1 : Nat) : Int) from by omega) ?_
      refine zV_putI (x := jI (((L.length - 1 : Nat) : Int))) (ci := 3) (q := (RX4, TX4, 27)) 6 dX4_undo_28 q1923 (md_ge hM1) (md_k hM1) rfl (by decide) rfl (fun _ _ => rfl) rfl rfl (by decide) ?_
      have c2 : zCh [o + 1, o + 5] o [6] h1 (sI h1 o 6 (jI ((L.length - 1 : Nat) : Int))) := zCh.rf.puto (by simp)
      have n2 : gI (sI h1 o 6 (jI ((L.length - 1 : Nat) : Int))) o 6 = ((L.length - 1 : Nat) : Int) := gI_put_s ⟨by omega, by omega⟩
      have r2 : gI (sI h1 o 6 (jI ((L.length - 1 : Nat) : Int))) (o + 5) = gI h1 (o + 5) := funext (fun j => gI_ne (by omega))
      have p2 : gI (sI h1 o 6 (jI ((L.length - 1 : Nat) : Int))) (o + 1) = P := (funext (fun j => gI_ne (by omega))).trans hP1
      generalize sI h1 o 6 (jI ((L.length - 1 : Nat) : Int)) = h2 at c2 n2 r2 p2 ⊢
      have hM2 := hM1.ch c2
      refine zV_aload_n 0 dX4_undo_31 rfl rfl (Or.inr ⟨_, rfl⟩) ?_
      refine zV_getf (v := .ref (o + 5)) (ci := 3) (q := (RX4, TX4, 27)) 5 dX4_undo_32 q1922 (md_k hM2) rfl (by decide) (congrArg va_rf (md_r_past hM2)) (by decide) ?_
      refine zV_jsipush dX4_undo_35 (by decide) ?_
      refine zV_aload_n 0 dX4_undo_38 rfl rfl (Or.inr ⟨_, rfl⟩) ?_
      refine zV_tgetf (ci := 3) (q := (RX4, TX4, 27)) 6 dX4_undo_39 q1923 (md_k hM2) rfl (by decide) rfl (by decide) ?_
      refine zV.eq (show ((zI h2 o 6).toInt : Int) = ((L.length - 1 : Nat) : Int) from n2) ?_
      refine zV_jmul dX4_undo_42 ?_
      refine zV.eq (show (171 * ((L.length - 1 : Nat) : Int) : Int) = ((171 * (L.length - 1) : Nat) : Int) from by omega) ?_
      refine zV_aload_n 0 dX4_undo_43 rfl rfl (Or.inr ⟨_, rfl⟩) ?_
      refine zV_getf (v := .ref (o + 1)) (ci := 3) (q := (RX4, TX4, 27)) 1 dX4_undo_44 q1918 (md_k hM2) rfl (by decide) (congrArg va_rf (md_r_s hM2)) (by decide) ?_
      refine zV_iconst (n := 0) dX4_undo_47 ?_
      refine zV_jsipush dX4_undo_48 (by decide) ?_
      refine zc_S (y' := zX4_copies) (as := [.ref (o + 5), .int (jI (((171 * (L.length - 1) : Nat) : Int))), .ref (o + 1), .int (jI (0)), .int (jI (171))]) (rest := []) bX4_copies dX4_undo_51 q2027 q2028 (c_X4_copies (md_k_past hM2) (md_k_s hM2) (md_z_past hM2) (md_z_s hM2) (Nat.le_trans (md_ge hM2) (by omega)) (171 * (L.length - 1)) 0 171 (by omega) (by decide) (by decide) (by decide) (Or.inl (by omega))) rfl rfl (by decide) (Nat.le_of_ble_eq_true rfl) (zk_V (fun h3 ⟨k1, k2⟩ _ => ?_))
      have w3 : zCh [o + 1, o + 5] o [6] h1 h3 := c2.tr (zCh.io (k1.mono (by simp)) (by simp))
      have hM3 := hM1.ch w3
      have hla := laL_mem (P := P) cm
      have hlo : pOk (laL P L) := gAll _ (List.mem_of_getElem? hla)
      have p3 : gI h3 (o + 1) = laL P L := by
        rw [k2, p2, r2]
        funext j
        unfold cpR
        by_cases e : j < 171
        · rw [if_pos (by omega)]; exact gAR _ _ hla j e
        · rw [if_neg (by omega), hlo.2 j (by omega)]; exact hS.2.1.2.2 j (by omega)
      have hS2 : MdS h3 o (laL P L, L.dropLast, K, I, E, U) := hS1.upd (w3.mono (by simp) (by simp)) ⟨p3, hlo⟩ ⟨(congrFun (k1.row (by simp)) 6).trans (n2.trans (by rw [List.length_dropLast])), by rw [List.length_dropLast]; omega, fun X hX => gAll X (List.dropLast_subset L hX), by rw [k1.row (by simp), r2]; exact paR_dl gAR⟩
      have t2 : gI h3 o 0 = 0 := (w3.2 0 (by simp)).trans (i0.2.trans (ma2_iff.mpr ⟨cm, trivial⟩))
      refine zV_aload_n 0 dX4_undo_54 rfl rfl (Or.inr ⟨_, rfl⟩) ?_
      refine zV_tgetf (ci := 3) (q := (RX4, TX4, 27)) 6 dX4_undo_55 q1923 (md_k hM3) rfl (by decide) rfl (by decide) ?_
      refine zV.eq (show ((zI h3 o 6).toInt : Int) = ((L.length - 1 : Nat) : Int) from (congrFun (k1.row (by simp)) 6).trans n2) ?_
      exact zV_ireturn dX4_undo_58 rfl rfl ⟨_, rfl, t2.trans (ma2_iff.mpr ⟨cm, trivial⟩).symm, fun _ => ⟨rfl, hS2⟩, fun e => absurd (ma2_iff.mpr ⟨cm, trivial⟩) e⟩
    · refine zV.eq (show (bI (0 < L.length) : Int) = 0 from bI_f cm) ?_
      refine zV_jif_ne 21 dX4_undo_16 rfl ⟨by decide, by decide⟩ (fun c_ => absurd c_ (by decide)) (fun _ => ?_)
      refine zV_iconst (n := 0) dX4_undo_19 ?_
      exact zV_ireturn dX4_undo_20 rfl rfl ⟨_, rfl, i0.2, fun e => absurd e (ma1_ne cm), fun _ => hS.sc i0.go0.1⟩
theorem c_X4_saveState {L : List pRow} {K : Option pRow} {I U : Nat × pRow} {E : Int × Int} (hS : MdS h o (P, L, K, I, E, U)) : zM G zX4_saveState 2 [.ref o] h (zDo o (P 0) (P, L, some P, I, E, U)) := by
  have hM : MdL h o := hS.1; have hP : gI h (o + 1) = P := hS.2.1.1; have hw : pWf P := hS.2.1.2.1; have hMA : mdA h o L := hS.2.2.1; obtain ⟨hA, hA8, hAll, hAR⟩ := hMA
  obtain ⟨w0, w0b, w1, w1b, w2, w2b, w3, w3b, w4, w4b, w5, w5b, wp, wl, wn⟩ := id hw
  refine zM.ofV (lv := [(0, .ref o)]) (by decide +kernel) (Nat.le_of_ble_eq_true rfl) rfl ?_
  refine zV_aload_n 0 dX4_saveState_0 rfl rfl (Or.inr ⟨_, rfl⟩) ?_
  refine zV_iconst (n := 0) dX4_saveState_1 ?_
  refine zV_putI (x := jI (0)) (ci := 3) (q := (RX4, TX4, 27)) 0 dX4_saveState_2 q1917 (md_ge hM) (md_k hM) rfl (by decide) rfl (fun _ _ => rfl) rfl rfl (by decide) ?_
  have c0 : zCh [] o [0] h (sI h o 0 (jI 0)) := zCh.rf.puto (by simp)
  have t0 : gI (sI h o 0 (jI 0)) o 0 = 0 := gI_put_s ⟨by decide, by decide⟩
  have hS0 := hS.sc (c0.mono (by simp) (by simp))
  generalize sI h o 0 (jI 0) = h0 at c0 t0 hS0 ⊢
  have hM0 : MdL h0 o := hS0.1
  have hP0 : gI h0 (o + 1) = P := hS0.2.1.1
  refine zV_aload_n 0 dX4_saveState_5 rfl rfl (Or.inr ⟨_, rfl⟩) ?_
  refine zV_getf (v := .ref (o + 1)) (ci := 3) (q := (RX4, TX4, 27)) 1 dX4_saveState_6 q1918 (md_k hM0) rfl (by decide) (congrArg va_rf (md_r_s hM0)) (by decide) ?_
  refine zV_iconst (n := 0) dX4_saveState_9 ?_
  refine zV_aload_n 0 dX4_saveState_10 rfl rfl (Or.inr ⟨_, rfl⟩) ?_
  refine zV_getf (v := .ref (o + 4)) (ci := 3) (q := (RX4, TX4, 27)) 4 dX4_saveState_11 q1921 (md_k hM0) rfl (by decide) (congrArg va_rf (md_r_kept hM0)) (by decide) ?_
  refine zV_iconst (n := 0) dX4_saveState_14 ?_
  refine zV_jsipush dX4_saveState_15 (by decide) ?_
  refine zc_S (y' := zX4_copies) (as := [.ref (o + 1), .int (jI (0)), .ref (o + 4), .int (jI (0)), .int (jI (171))]) (rest := []) bX4_copies dX4_saveState_18 q2027 q2028 (c_X4_copies (md_k_s hM0) (md_k_kept hM0) (md_z_s hM0) (md_z_kept hM0) (Nat.le_trans (md_ge hM0) (by omega)) 0 0 171 (by decide) (by decide) (by decide) (by decide) (Or.inl (by omega))) rfl rfl (by decide) (Nat.le_of_ble_eq_true rfl) (zk_V (fun h1 ⟨i1, i2⟩ _ => ?_))
  have c1 : zCh [o + 4] o [7] h0 h1 := zCh.io i1 (by simp)
  have hM1 := hM0.ch c1
  refine zV_aload_n 0 dX4_saveState_21 rfl rfl (Or.inr ⟨_, rfl⟩) ?_
  refine zV_iconst (n := 1) dX4_saveState_22 ?_
  refine zV_putI (x := jI (1)) (ci := 3) (q := (RX4, TX4, 27)) 7 dX4_saveState_23 q1924 (md_ge hM1) (md_k hM1) rfl (by decide) rfl (fun _ _ => rfl) rfl rfl (by decide) ?_
  have c2 := c1.puto (k := 7) (x := jI 1) (by simp)
  have n2 : gI (sI h1 o 7 (jI 1)) o 7 = 1 := gI_put_s ⟨by decide, by decide⟩
  have r2 : gI (sI h1 o 7 (jI 1)) (o + 4) = cpR P 0 (gI h0 (o + 4)) 0 171 := (funext (fun j => gI_ne (by omega))).trans (i2.trans (by rw [hP0]))
  generalize sI h1 o 7 (jI 1) = h2 at c2 n2 r2 ⊢
  have p2 : gI h2 (o + 1) = P := (c2.row (by simp)).trans hP0
  have hM2 := hM0.ch c2
  have hS2 : MdS h2 o (P, L, some P, I, E, U) := ⟨hM2, hS0.2.1.ch c2 (by simp), hS0.2.2.1.ch c2 (by simp) (by simp), ⟨n2, fun X hX => ⟨by obtain rfl := Option.some.inj hX; exact hS.2.1.2, fun j hj => by obtain rfl := Option.some.inj hX; rw [r2]; unfold cpR; rw [if_pos (by omega)]; congr 1; omega⟩⟩, hS0.2.2.2.2.1.ch c2 (by simp) (by simp), hS0.2.2.2.2.2.1.ch c2 (by simp) (by simp), hS0.2.2.2.2.2.2.ch c2 (by simp) (by simp)⟩
  refine zV_aload_n 0 dX4_saveState_26 rfl rfl (Or.inr ⟨_, rfl⟩) ?_
  refine zc_V (y' := zX4_many) (as := []) (rest := []) (ci := 3) (q := (RX4, TX4, 27)) bX4_many dX4_saveState_27 q2042 q2044 qs50 (md_k hM2) rfl (c_X4_many hM2 p2) rfl rfl (by decide) (Nat.le_of_ble_eq_true rfl) (by decide) (zk_J1 ?_)
  exact zV_ireturn dX4_saveState_30 rfl rfl ⟨_, rfl, rfl, hS2⟩
theorem c_X4_restoreState {L : List pRow} {K : Option pRow} {I U : Nat × pRow} {E : Int × Int} (hS : MdS h o (P, L, K, I, E, U)) : zM G zX4_restoreState 3 [.ref o] h (zCg o (ma1 (K ≠ none)) (K.getD P 0) (P, L, K, I, E, U) (K.getD P, [], K, I, E, U)) := by
  have hM : MdL h o := hS.1; have hP : gI h (o + 1) = P := hS.2.1.1; have hw : pWf P := hS.2.1.2.1; have hMA : mdA h o L := hS.2.2.1; obtain ⟨hA, hA8, hAll, hAR⟩ := hMA
  obtain ⟨w0, w0b, w1, w1b, w2, w2b, w3, w3b, w4, w4b, w5, w5b, wp, wl, wn⟩ := id hw
  refine zM.ofV (lv := [(0, .ref o)]) (by decide +kernel) (Nat.le_of_ble_eq_true rfl) rfl ?_
  refine zV_aload_n 0 dX4_restoreState_0 rfl rfl (Or.inr ⟨_, rfl⟩) ?_
  refine zV_aload_n 0 dX4_restoreState_1 rfl rfl (Or.inr ⟨_, rfl⟩) ?_
  refine zV_tgetf (ci := 3) (q := (RX4, TX4, 27)) 7 dX4_restoreState_2 q1924 (md_k hM) rfl (by decide) rfl (by decide) ?_
  refine zV.eq (show ((zI h o 7).toInt : Int) = bI (K ≠ none) from hS.2.2.2.1.1) ?_
  refine zc_V (y' := zX4_mayOne) (as := [.int (jI (bI (K ≠ none)))]) (rest := []) (ci := 3) (q := (RX4, TX4, 27)) bX4_mayOne dX4_restoreState_5 q2141 q2143 qs69 (md_k hM) rfl (c_X4_mayOne hM (K ≠ none)) rfl rfl (by decide) (Nat.le_of_ble_eq_true rfl) (by decide) (zk_I (fun z h1 ⟨ez, i0⟩ _ => ?_))
  subst ez
  have hM1 : MdL h1 o := hM.ch i0.1
  have hP1 : gI h1 (o + 1) = P := (i0.1.row (by simp)).trans hP
  by_cases cm : K ≠ none
  · refine zV.eq (show (bI (K ≠ none) : Int) = 1 from bI_t cm) ?_
    refine zV_jif_ne 13 dX4_restoreState_8 rfl ⟨by decide, by decide⟩ (fun _ => ?_) (fun c_ => absurd c_ (by decide))
    obtain ⟨X, rfl⟩ := Option.ne_none_iff_exists'.mp cm
    have hS1 := hS.sc i0.go0.1
    have gMA : mdA h1 o L := hS1.2.2.1
    obtain ⟨gA, gA8, gAll, gAR⟩ := gMA
    have hKX := hS1.2.2.2.1.2 X rfl
    refine zV_aload_n 0 dX4_restoreState_13 rfl rfl (Or.inr ⟨_, rfl⟩) ?_
    refine zV_getf (v := .ref (o + 4)) (ci := 3) (q := (RX4, TX4, 27)) 4 dX4_restoreState_14 q1921 (md_k hM1) rfl (by decide) (congrArg va_rf (md_r_kept hM1)) (by decide) ?_
    refine zV_iconst (n := 0) dX4_restoreState_17 ?_
    refine zV_aload_n 0 dX4_restoreState_18 rfl rfl (Or.inr ⟨_, rfl⟩) ?_
    refine zV_getf (v := .ref (o + 1)) (ci := 3) (q := (RX4, TX4, 27)) 1 dX4_restoreState_19 q1918 (md_k hM1) rfl (by decide) (congrArg va_rf (md_r_s hM1)) (by decide) ?_
    refine zV_iconst (n := 0) dX4_restoreState_22 ?_
    refine zV_jsipush dX4_restoreState_23 (by decide) ?_
    refine zc_S (y' := zX4_copies) (as := [.ref (o + 4), .int (jI (0)), .ref (o + 1), .int (jI (0)), .int (jI (171))]) (rest := []) bX4_copies dX4_restoreState_26 q2027 q2028 (c_X4_copies (md_k_kept hM1) (md_k_s hM1) (md_z_kept hM1) (md_z_s hM1) (Nat.le_trans (md_ge hM1) (by omega)) 0 0 171 (by decide) (by decide) (by decide) (by decide) (Or.inl (by omega))) rfl rfl (by decide) (Nat.le_of_ble_eq_true rfl) (zk_V (fun h2 ⟨k1, k2⟩ _ => ?_))
    have w2 : zCh [o + 1, o + 5] o [6] h1 h2 := zCh.io (k1.mono (by simp)) (by simp)
    have p2 : gI h2 (o + 1) = X := by
      rw [k2, hP1]
      funext j
      unfold cpR
      by_cases e : j < 171
      · rw [if_pos (by omega), show 0 + (j - 0) = j by omega]; exact hKX.2 j e
      · rw [if_neg (by omega), hKX.1.2 j (by omega)]; exact hS.2.1.2.2 j (by omega)
    have hM2 := hM1.ch w2
    refine zV_aload_n 0 dX4_restoreState_29 rfl rfl (Or.inr ⟨_, rfl⟩) ?_
    refine zV_iconst (n := 0) dX4_restoreState_30 ?_
    refine zV_putI (x := jI (0)) (ci := 3) (q := (RX4, TX4, 27)) 6 dX4_restoreState_31 q1923 (md_ge hM2) (md_k hM2) rfl (by decide) rfl (fun _ _ => rfl) rfl rfl (by decide) ?_
    have w3 := w2.puto (k := 6) (x := jI 0) (by simp)
    have n3 : gI (sI h2 o 6 (jI 0)) o 6 = 0 := gI_put_s ⟨by decide, by decide⟩
    have p3 : gI (sI h2 o 6 (jI 0)) (o + 1) = X := (funext (fun j => gI_ne (by omega))).trans p2
    generalize sI h2 o 6 (jI 0) = h3 at w3 n3 p3 ⊢
    have hM3 := hM1.ch w3
    have hS2 : MdS h3 o (X, [], some X, I, E, U) := hS1.upd (w3.mono (by simp) (by simp)) ⟨p3, hKX.1⟩ ⟨n3, by decide, fun Y hY => absurd hY (by simp), fun i Y hY => absurd hY (by simp)⟩
    have t2 : gI h3 o 0 = 0 := (w3.2 0 (by simp)).trans (i0.2.trans (ma2_iff.mpr ⟨cm, trivial⟩))
    refine zV_aload_n 0 dX4_restoreState_34 rfl rfl (Or.inr ⟨_, rfl⟩) ?_
    refine zc_V (y' := zX4_many) (as := []) (rest := []) (ci := 3) (q := (RX4, TX4, 27)) bX4_many dX4_restoreState_35 q2042 q2044 qs50 (md_k hM3) rfl (c_X4_many hM3 p3 (P := X)) rfl rfl (by decide) (Nat.le_of_ble_eq_true rfl) (by decide) (zk_J1 ?_)
    exact zV_ireturn dX4_restoreState_38 rfl rfl ⟨_, rfl, t2.trans (ma2_iff.mpr ⟨cm, trivial⟩).symm, fun _ => ⟨rfl, hS2⟩, fun e => absurd (ma2_iff.mpr ⟨cm, trivial⟩) e⟩
  · refine zV.eq (show (bI (K ≠ none) : Int) = 0 from bI_f cm) ?_
    refine zV_jif_ne 13 dX4_restoreState_8 rfl ⟨by decide, by decide⟩ (fun c_ => absurd c_ (by decide)) (fun _ => ?_)
    refine zV_iconst (n := 0) dX4_restoreState_11 ?_
    exact zV_ireturn dX4_restoreState_12 rfl rfl ⟨_, rfl, i0.2, fun e => absurd e (ma1_ne cm), fun _ => hS.sc i0.go0.1⟩
theorem c_X4_truncateInput {L : List pRow} {K : Option pRow} {I U : Nat × pRow} {E : Int × Int} (hS : MdS h o (P, L, K, I, E, U)) (a : Int) (ha : jr a) : zM G zX4_truncateInput 1 [.ref o, .int (jI a)] h (zDo o (bI (0 ≤ a ∧ a ≤ ((I.1 : Nat) : Int))) (P, L, K, (if 0 ≤ a ∧ a ≤ ((I.1 : Nat) : Int) then (a.toNat, I.2) else I), E, U)) := by
  have hM : MdL h o := hS.1; have hP : gI h (o + 1) = P := hS.2.1.1; have hw : pWf P := hS.2.1.2.1; have hMA : mdA h o L := hS.2.2.1; obtain ⟨hA, hA8, hAll, hAR⟩ := hMA
  obtain ⟨w0, w0b, w1, w1b, w2, w2b, w3, w3b, w4, w4b, w5, w5b, wp, wl, wn⟩ := id hw
  refine zM.ofV (lv := [(0, .ref o), (1, .int (jI (a)))]) (by decide +kernel) (Nat.le_of_ble_eq_true rfl) rfl ?_
  refine zV_aload_n 0 dX4_truncateInput_0 rfl rfl (Or.inr ⟨_, rfl⟩) ?_
  refine zV_iconst (n := 0) dX4_truncateInput_1 ?_
  refine zV_putI (x := jI (0)) (ci := 3) (q := (RX4, TX4, 27)) 0 dX4_truncateInput_2 q1917 (md_ge hM) (md_k hM) rfl (by decide) rfl (fun _ _ => rfl) rfl rfl (by decide) ?_
  have c0 : zCh [] o [0] h (sI h o 0 (jI 0)) := zCh.rf.puto (by simp)
  have t0 : gI (sI h o 0 (jI 0)) o 0 = 0 := gI_put_s ⟨by decide, by decide⟩
  have hS0 := hS.sc (c0.mono (by simp) (by simp))
  generalize sI h o 0 (jI 0) = h0 at c0 t0 hS0 ⊢
  have hM0 : MdL h0 o := hS0.1
  have hP0 : gI h0 (o + 1) = P := hS0.2.1.1
  have hI0 : mdI h0 o I := hS0.2.2.2.2.1
  refine zV_iload_n 1 dX4_truncateInput_5 rfl rfl ?_
  refine zV_iconst (n := 0) dX4_truncateInput_6 ?_
  refine zV_aload_n 0 dX4_truncateInput_7 rfl rfl (Or.inr ⟨_, rfl⟩) ?_
  refine zV_tgetf (ci := 3) (q := (RX4, TX4, 27)) 16 dX4_truncateInput_8 q1933 (md_k hM0) rfl (by decide) rfl (by decide) ?_
  refine zV.eq (show ((zI h0 o 16).toInt : Int) = ((I.1 : Nat) : Int) from hI0.1) ?_
  have hI1 := hI0.2.1
  refine zc_S (y' := zX4_isIn) (as := [.int (jI (a)), .int (jI (0)), .int (jI (((I.1 : Nat) : Int)))]) (rest := []) bX4_isIn dX4_truncateInput_11 q2012 q2013 (c_X4_isIn (a) (0) (((I.1 : Nat) : Int)) ha ⟨by decide, by decide⟩ ⟨by omega, by omega⟩) rfl rfl (by decide) (Nat.le_of_ble_eq_true rfl) (zk_J1 ?_)
  by_cases c1 : 0 ≤ a ∧ a ≤ ((I.1 : Nat) : Int)
  · refine zV.eq (show (bI (0 ≤ a ∧ a ≤ ((I.1 : Nat) : Int)) : Int) = 1 from bI_t c1) ?_
    refine zV_jif_ne 19 dX4_truncateInput_14 rfl ⟨by decide, by decide⟩ (fun _ => ?_) (fun c_ => absurd c_ (by decide))
    obtain ⟨k, rfl⟩ : ∃ n_ : Nat, a = (n_ : Int) := ⟨(a).toNat, by omega⟩
    refine zV_aload_n 0 dX4_truncateInput_19 rfl rfl (Or.inr ⟨_, rfl⟩) ?_
    refine zV_iload_n 1 dX4_truncateInput_20 rfl rfl ?_
    refine zV_putI (x := jI (((k : Nat) : Int))) (ci := 3) (q := (RX4, TX4, 27)) 16 dX4_truncateInput_21 q1933 (md_ge hM0) (md_k hM0) rfl (by decide) rfl (fun _ _ => rfl) rfl rfl (by decide) ?_
    have e1 : zCh [] o [16] h0 (sI h0 o 16 (jI ((k : Nat) : Int))) := zCh.rf.puto (by simp)
    have n1 : gI (sI h0 o 16 (jI ((k : Nat) : Int))) o 16 = ((k : Nat) : Int) := gI_put_s ⟨by omega, by omega⟩
    have r1 : gI (sI h0 o 16 (jI ((k : Nat) : Int))) (o + 12) = gI h0 (o + 12) := funext (fun j => gI_ne (by omega))
    have cc := e1
    refine zV_iconst (n := 1) dX4_truncateInput_24 ?_
    exact zV_ireturn dX4_truncateInput_25 rfl rfl ⟨_, rfl, (bI_t c1).symm, by rw [if_pos c1]; exact ⟨hM0.ch e1, hS0.2.1.ch e1 (by simp), hS0.2.2.1.ch e1 (by simp) (by simp), hS0.2.2.2.1.ch e1 (by simp) (by simp), ⟨n1, by show k ≤ 500; omega, fun j hj => by rw [r1]; exact hI0.2.2 j (by have hjk : j < k := hj; omega)⟩, hS0.2.2.2.2.2.1.ch e1 (by simp) (by simp), hS0.2.2.2.2.2.2.ch e1 (by simp) (by simp)⟩⟩
  · refine zV.eq (show (bI (0 ≤ a ∧ a ≤ ((I.1 : Nat) : Int)) : Int) = 0 from bI_f c1) ?_
    refine zV_jif_ne 19 dX4_truncateInput_14 rfl ⟨by decide, by decide⟩ (fun c_ => absurd c_ (by decide)) (fun _ => ?_)
    refine zV_iconst (n := 0) dX4_truncateInput_17 ?_
    exact zV_ireturn dX4_truncateInput_18 rfl rfl ⟨_, rfl, (bI_f c1).symm, by rw [if_neg c1]; exact hS0⟩
theorem c_X4_errorCode {L : List pRow} {K : Option pRow} {I U : Nat × pRow} {E : Int × Int} (hS : MdS h o (P, L, K, I, E, U)) : zM G zX4_errorCode 0 [.ref o] h (zDo o E.1 (P, L, K, I, E, U)) := by
  have hM : MdL h o := hS.1; have hP : gI h (o + 1) = P := hS.2.1.1; have hw : pWf P := hS.2.1.2.1; have hMA : mdA h o L := hS.2.2.1; obtain ⟨hA, hA8, hAll, hAR⟩ := hMA
  obtain ⟨w0, w0b, w1, w1b, w2, w2b, w3, w3b, w4, w4b, w5, w5b, wp, wl, wn⟩ := id hw
  refine zM.ofV (lv := [(0, .ref o)]) (by decide +kernel) (Nat.le_of_ble_eq_true rfl) rfl ?_
  refine zV_aload_n 0 dX4_errorCode_0 rfl rfl (Or.inr ⟨_, rfl⟩) ?_
  refine zV_iconst (n := 0) dX4_errorCode_1 ?_
  refine zV_putI (x := jI (0)) (ci := 3) (q := (RX4, TX4, 27)) 0 dX4_errorCode_2 q1917 (md_ge hM) (md_k hM) rfl (by decide) rfl (fun _ _ => rfl) rfl rfl (by decide) ?_
  have c0 : zCh [] o [0] h (sI h o 0 (jI 0)) := zCh.rf.puto (by simp)
  have t0 : gI (sI h o 0 (jI 0)) o 0 = 0 := gI_put_s ⟨by decide, by decide⟩
  have hS0 := hS.sc (c0.mono (by simp) (by simp))
  generalize sI h o 0 (jI 0) = h0 at c0 t0 hS0 ⊢
  have hM0 : MdL h0 o := hS0.1
  have hP0 : gI h0 (o + 1) = P := hS0.2.1.1
  have hE0 : mdE h0 o E := hS0.2.2.2.2.2.1
  refine zV_aload_n 0 dX4_errorCode_5 rfl rfl (Or.inr ⟨_, rfl⟩) ?_
  refine zV_tgetf (ci := 3) (q := (RX4, TX4, 27)) 17 dX4_errorCode_6 q1934 (md_k hM0) rfl (by decide) rfl (by decide) ?_
  refine zV.eq (show ((zI h0 o 17).toInt : Int) = E.1 from hE0.1) ?_
  exact zV_ireturn dX4_errorCode_9 rfl rfl ⟨_, rfl, rfl, hS0⟩
theorem c_X4_errorOffset {L : List pRow} {K : Option pRow} {I U : Nat × pRow} {E : Int × Int} (hS : MdS h o (P, L, K, I, E, U)) : zM G zX4_errorOffset 0 [.ref o] h (zDo o E.2 (P, L, K, I, E, U)) := by
  have hM : MdL h o := hS.1; have hP : gI h (o + 1) = P := hS.2.1.1; have hw : pWf P := hS.2.1.2.1; have hMA : mdA h o L := hS.2.2.1; obtain ⟨hA, hA8, hAll, hAR⟩ := hMA
  obtain ⟨w0, w0b, w1, w1b, w2, w2b, w3, w3b, w4, w4b, w5, w5b, wp, wl, wn⟩ := id hw
  refine zM.ofV (lv := [(0, .ref o)]) (by decide +kernel) (Nat.le_of_ble_eq_true rfl) rfl ?_
  refine zV_aload_n 0 dX4_errorOffset_0 rfl rfl (Or.inr ⟨_, rfl⟩) ?_
  refine zV_iconst (n := 0) dX4_errorOffset_1 ?_
  refine zV_putI (x := jI (0)) (ci := 3) (q := (RX4, TX4, 27)) 0 dX4_errorOffset_2 q1917 (md_ge hM) (md_k hM) rfl (by decide) rfl (fun _ _ => rfl) rfl rfl (by decide) ?_
  have c0 : zCh [] o [0] h (sI h o 0 (jI 0)) := zCh.rf.puto (by simp)
  have t0 : gI (sI h o 0 (jI 0)) o 0 = 0 := gI_put_s ⟨by decide, by decide⟩
  have hS0 := hS.sc (c0.mono (by simp) (by simp))
  generalize sI h o 0 (jI 0) = h0 at c0 t0 hS0 ⊢
  have hM0 : MdL h0 o := hS0.1
  have hP0 : gI h0 (o + 1) = P := hS0.2.1.1
  have hE0 : mdE h0 o E := hS0.2.2.2.2.2.1
  refine zV_aload_n 0 dX4_errorOffset_5 rfl rfl (Or.inr ⟨_, rfl⟩) ?_
  refine zV_tgetf (ci := 3) (q := (RX4, TX4, 27)) 18 dX4_errorOffset_6 q1935 (md_k hM0) rfl (by decide) rfl (by decide) ?_
  refine zV.eq (show ((zI h0 o 18).toInt : Int) = E.2 from hE0.2) ?_
  exact zV_ireturn dX4_errorOffset_9 rfl rfl ⟨_, rfl, rfl, hS0⟩
end M18
