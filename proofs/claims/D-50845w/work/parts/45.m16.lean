/-! ===== THE MODEL, 16: its state; changes (printed by a program of gen/) ===== -/
set_option maxRecDepth 100000
section M16
variable {G : zG} {h : zH} {o : Nat} {P : pRow}
/-- as an int -/
def wr (z : Int) : Int := (jI z).toInt
theorem wr_jr (z : Int) : jr (wr z) := jr_toInt _
theorem wr_eq {z : Int} (h : jr z) : wr z = z := jI_toInt h
theorem gI_pSetw {h : zH} {a k : Nat} {v : Int} {P : pRow} (hP : gI h a = P) : gI (sI h a k (jI v)) a = pSet P k (wr v) := by
  rw [jI_of (jI v)]
  exact gI_pSet (jr_toInt _) hP
def paR (R : pRow) (L : List pRow) : Prop := ∀ i X, L[i]? = some X → ∀ j, j < 171 → R (171 * i + j) = X j
theorem paR_add {R P : pRow} {L : List pRow} (h : paR R L) : paR (cpR P 0 R (171 * L.length) 171) (L ++ [P]) := by
  intro i X hX j hj
  unfold cpR
  by_cases hi : i < L.length
  · rw [if_neg (by omega)]
    rw [List.getElem?_append_left hi] at hX
    exact h i X hX j hj
  · rw [List.getElem?_append_right (by omega)] at hX
    by_cases e : i = L.length
    · subst e
      rw [if_pos (by omega)]
      simp at hX
      rw [hX]
      congr 1
      omega
    · rw [List.getElem?_eq_none (by simp only [List.length_cons, List.length_nil]; omega)] at hX
      exact absurd hX (by simp)
theorem paR_drop {R : pRow} {L : List pRow} (h : paR R L) (hL : L.length = 8) : paR (cpR R 171 R 0 1197) (L.drop 1) := by
  intro i X hX j hj
  rw [List.getElem?_drop] at hX
  have hi : 1 + i < L.length := by
    by_cases c : 1 + i < L.length
    · exact c
    · rw [List.getElem?_eq_none (by omega)] at hX; exact absurd hX (by simp)
  unfold cpR
  rw [if_pos (by omega), show 171 + (171 * i + j - 0) = 171 * (1 + i) + j by omega]
  exact h _ X hX j hj
def kps (P : pRow) (L : List pRow) : List pRow := if L.length = 8 then L.drop 1 ++ [P] else L ++ [P]
theorem kps_le {P : pRow} {L : List pRow} (h : L.length ≤ 8) : (kps P L).length ≤ 8 := by
  unfold kps
  split
  · simp; omega
  · simp; omega
/-- an account is more -/
def acc (P : pRow) (c : Nat) (v : Int) : pRow := pSet P (c + 37) (wr (P (c + 37) + v))
def pOk (P : pRow) : Prop := pWf P ∧ ∀ j, 171 ≤ j → P j = 0
theorem kps_ok {P : pRow} {L : List pRow} (h : ∀ X ∈ L, pOk X) (hP : pOk P) : ∀ X ∈ kps P L, pOk X := by
  intro X hX
  unfold kps at hX
  split at hX
  · rcases List.mem_append.mp hX with z | z
    · exact h X (List.mem_of_mem_drop z)
    · rw [List.mem_singleton.mp z]; exact hP
  · rcases List.mem_append.mp hX with z | z
    · exact h X z
    · rw [List.mem_singleton.mp z]; exact hP
theorem tl_pSet {P : pRow} {k : Nat} {v : Int} (hk : k < 171) (h : ∀ j, 171 ≤ j → P j = 0) : ∀ j, 171 ≤ j → pSet P k v j = 0 := fun j hj => by rw [pSet_ne (by omega)]; exact h j hj
theorem pWf_acc {P : pRow} {c : Nat} {v : Int} (h : pWf P) (hc : c < 6) : pWf (acc P c v) := pWf_account h hc
theorem acc_0 {P : pRow} {c : Nat} {v : Int} : acc P c v 0 = P 0 := pSet_ne (by omega)
theorem pOk_acc {P : pRow} {c : Nat} {v : Int} (h : pOk P) (hc : c < 6) : pOk (acc P c v) := ⟨pWf_account h.1 hc, tl_pSet (by omega) h.2⟩
/-! the state -/
def mdP (h : zH) (o : Nat) (P : pRow) : Prop := gI h (o + 1) = P ∧ pOk P
def mdA (h : zH) (o : Nat) (L : List pRow) : Prop := gI h o 6 = (L.length : Int) ∧ L.length ≤ 8 ∧ (∀ X ∈ L, pOk X) ∧ paR (gI h (o + 5)) L
def mdK (h : zH) (o : Nat) (K : Option pRow) : Prop := gI h o 7 = bI (K ≠ none) ∧ ∀ X, K = some X → pOk X ∧ ∀ j, j < 171 → gI h (o + 4) j = X j
def mdI (h : zH) (o : Nat) (I : Nat × pRow) : Prop := gI h o 16 = (I.1 : Int) ∧ I.1 ≤ 500 ∧ ∀ j, j < I.1 → gI h (o + 12) j = I.2 j
def mdE (h : zH) (o : Nat) (E : Int × Int) : Prop := gI h o 17 = E.1 ∧ gI h o 18 = E.2
def mdU (h : zH) (o : Nat) (U : Nat × pRow) : Prop := gI h o 26 = (U.1 : Int) ∧ U.1 ≤ 600 ∧ ∀ j, j < U.1 → gI h (o + 15) j = U.2 j
abbrev mSt : Type := pRow × List pRow × Option pRow × (Nat × pRow) × (Int × Int) × (Nat × pRow)
/-- the model at o is in the state A: numbers, what was, what is kept, input, error, output -/
def MdS (h : zH) (o : Nat) (A : mSt) : Prop := MdL h o ∧ mdP h o A.1 ∧ mdA h o A.2.1 ∧ mdK h o A.2.2.1 ∧ mdI h o A.2.2.2.1 ∧ mdE h o A.2.2.2.2.1 ∧ mdU h o A.2.2.2.2.2
section MDF
variable {S ks : List Nat} {h1 : zH}
theorem mdP.ch (a : mdP h o P) (c : zCh S o ks h h1) (hq1 : o + 1 ∉ S) : mdP h1 o P := ⟨(c.row (by simp [hq1])).trans a.1, a.2⟩
theorem mdA.ch {L : List pRow} (a : mdA h o L) (c : zCh S o ks h h1) (hk : 6 ∉ ks) (h5 : o + 5 ∉ S) : mdA h1 o L := ⟨(c.2 6 hk).trans a.1, a.2.1, a.2.2.1, by rw [c.row (by simp [h5])]; exact a.2.2.2⟩
theorem mdK.ch {K : Option pRow} (a : mdK h o K) (c : zCh S o ks h h1) (hk : 7 ∉ ks) (h4 : o + 4 ∉ S) : mdK h1 o K := ⟨(c.2 7 hk).trans a.1, fun X hX => ⟨(a.2 X hX).1, fun j hj => by rw [c.row (by simp [h4])]; exact (a.2 X hX).2 j hj⟩⟩
theorem mdI.ch {I : Nat × pRow} (a : mdI h o I) (c : zCh S o ks h h1) (hk : 16 ∉ ks) (h5 : o + 12 ∉ S) : mdI h1 o I := ⟨(c.2 16 hk).trans a.1, a.2.1, by rw [c.row (by simp [h5])]; exact a.2.2⟩
theorem mdE.ch {E : Int × Int} (a : mdE h o E) (c : zCh S o ks h h1) (hk : 17 ∉ ks) (hk2 : 18 ∉ ks) : mdE h1 o E := ⟨(c.2 17 hk).trans a.1, (c.2 18 hk2).trans a.2⟩
theorem mdU.ch {U : Nat × pRow} (a : mdU h o U) (c : zCh S o ks h h1) (hk : 26 ∉ ks) (h5 : o + 15 ∉ S) : mdU h1 o U := ⟨(c.2 26 hk).trans a.1, a.2.1, by rw [c.row (by simp [h5])]; exact a.2.2⟩
/-- what lies in between changes: the state stays -/
theorem MdS.sc {A : mSt} (a : MdS h o A) (c : zSc o h h1) : MdS h1 o A :=
  ⟨a.1.ch c, a.2.1.ch c (by simp), a.2.2.1.ch c (by simp) (by simp), a.2.2.2.1.ch c (by simp) (by simp), a.2.2.2.2.1.ch c (by simp) (by simp), a.2.2.2.2.2.1.ch c (by simp) (by simp), a.2.2.2.2.2.2.ch c (by simp) (by simp)⟩
/-- numbers and what was change -/
theorem MdS.upd {L L' : List pRow} {P' : pRow} {K : Option pRow} {I U : Nat × pRow} {E : Int × Int} (a : MdS h o (P, L, K, I, E, U)) (c : zCh [o + 1, o + 5] o [0, 6] h h1) (p : mdP h1 o P') (l : mdA h1 o L') : MdS h1 o (P', L', K, I, E, U) :=
  ⟨a.1.ch c, p, l, a.2.2.2.1.ch c (by simp) (by simp), a.2.2.2.2.1.ch c (by simp) (by simp), a.2.2.2.2.2.1.ch c (by simp) (by simp), a.2.2.2.2.2.2.ch c (by simp) (by simp)⟩
end MDF
/-- what a change answers: told0 is t; if it is 0, the answer is v and the state A', else the state is as it was -/
def zCg (o : Nat) (t v : Int) (A A' : mSt) : zO → zH → Prop := zOkI (fun z h1 => gI h1 o 0 = t ∧ (t = 0 → z = v ∧ MdS h1 o A') ∧ (t ≠ 0 → MdS h1 o A))
theorem c_X4_counts (hM : MdL h o) (hP : gI h (o + 1) = P) (c : Nat) (hc : c < 6) (v : Int) : zM G zX4_counts 0 [.ref o, .int (jI (c : Int)), .int (jI v)] h (zOkV (fun h1 => zIo [o + 1] h h1 ∧ gI h1 (o + 1) = acc P c v)) := by
  refine zM.ofV (lv := [(0, .ref o), (1, .int (jI (((c : Nat) : Int)))), (2, .int (jI (v)))]) (by decide +kernel) (Nat.le_of_ble_eq_true rfl) rfl ?_
  refine zV_aload_n 0 dX4_counts_0 rfl rfl (Or.inr ⟨_, rfl⟩) ?_
  refine zV_getf (v := .ref (o + 1)) (ci := 3) (q := (RX4, TX4, 27)) 1 dX4_counts_1 q1918 (md_k hM) rfl (by decide) (congrArg va_rf (md_r_s hM)) (by decide) ?_
  refine zV_jbipush dX4_counts_4 (by decide) ?_
  refine zV_iload_n 1 dX4_counts_6 rfl rfl ?_
  refine zV_jadd dX4_counts_7 ?_
  refine zV_aload_n 0 dX4_counts_8 rfl rfl (Or.inr ⟨_, rfl⟩) ?_
  refine zV_getf (v := .ref (o + 1)) (ci := 3) (q := (RX4, TX4, 27)) 1 dX4_counts_9 q1918 (md_k hM) rfl (by decide) (congrArg va_rf (md_r_s hM)) (by decide) ?_
  refine zV_jbipush dX4_counts_12 (by decide) ?_
  refine zV_iload_n 1 dX4_counts_14 rfl rfl ?_
  refine zV_jadd dX4_counts_15 ?_
  refine zV_tiald (c + 37) 171 dX4_counts_16 (md_k_s hM) (md_z_s hM) (by omega) (by omega) (by omega) ?_
  refine zV.eq (congrFun hP (c + 37)) ?_
  refine zV_iload_n 2 dX4_counts_17 rfl rfl ?_
  refine zV_jadd dX4_counts_18 ?_
  refine zV_jiast (x := jI ((P (c + 37)) + v)) (c + 37) 171 dX4_counts_19 (md_k_s hM) (Nat.le_trans (md_ge hM) (by omega)) (md_z_s hM) (by omega) (by omega) (by omega) ?_
  exact zV_return dX4_counts_20 rfl ⟨rfl, zIo.rf.put (by simp), gI_pSetw hP⟩
theorem c_X4_keeps (hM : MdL h o) (hP : gI h (o + 1) = P) {L : List pRow} (hA : gI h o 6 = (L.length : Int)) (hA8 : L.length ≤ 8) (hAR : paR (gI h (o + 5)) L) (c : Nat) (hc : c < 6) (v : Int) : zM G zX4_keeps 1 [.ref o, .int (jI (c : Int)), .int (jI v)] h (zOkV (fun h1 => (zCh [o + 1, o + 5] o [6] h h1 ∧ gI h1 o 6 = ((kps P L).length : Int) ∧ paR (gI h1 (o + 5)) (kps P L)) ∧ gI h1 (o + 1) = acc P c v)) := by
  refine zM.ofV (lv := [(0, .ref o), (1, .int (jI (((c : Nat) : Int)))), (2, .int (jI (v)))]) (by decide +kernel) (Nat.le_of_ble_eq_true rfl) rfl ?_
  refine zV_aload_n 0 dX4_keeps_0 rfl rfl (Or.inr ⟨_, rfl⟩) ?_
  refine zV_tgetf (ci := 3) (q := (RX4, TX4, 27)) 6 dX4_keeps_1 q1923 (md_k hM) rfl (by decide) rfl (by decide) ?_
  refine zV.eq (show ((zI h o 6).toInt : Int) = ((L.length : Nat) : Int) from hA) ?_
  refine zV_jbipush dX4_keeps_4 (by decide) ?_
  refine zV_jcmp_ne 37 dX4_keeps_6 rfl ⟨by omega, by omega⟩ ⟨by decide, by decide⟩ (fun c1 => ?_) (fun c1 => ?_)
  · refine zV_aload_n 0 dX4_keeps_37 rfl rfl (Or.inr ⟨_, rfl⟩) ?_
    refine zV_getf (v := .ref (o + 1)) (ci := 3) (q := (RX4, TX4, 27)) 1 dX4_keeps_38 q1918 (md_k hM) rfl (by decide) (congrArg va_rf (md_r_s hM)) (by decide) ?_
    refine zV_iconst (n := 0) dX4_keeps_41 ?_
    refine zV_aload_n 0 dX4_keeps_42 rfl rfl (Or.inr ⟨_, rfl⟩) ?_
    refine zV_getf (v := .ref (o + 5)) (ci := 3) (q := (RX4, TX4, 27)) 5 dX4_keeps_43 q1922 (md_k hM) rfl (by decide) (congrArg va_rf (md_r_past hM)) (by decide) ?_
    refine zV_jsipush dX4_keeps_46 (by decide) ?_
    refine zV_aload_n 0 dX4_keeps_49 rfl rfl (Or.inr ⟨_, rfl⟩) ?_
    refine zV_tgetf (ci := 3) (q := (RX4, TX4, 27)) 6 dX4_keeps_50 q1923 (md_k hM) rfl (by decide) rfl (by decide) ?_
    refine zV.eq (show ((zI h o 6).toInt : Int) = ((L.length : Nat) : Int) from hA) ?_
    refine zV_jmul dX4_keeps_53 ?_
    refine zV.eq (show (171 * ((L.length : Nat) : Int) : Int) = ((171 * L.length : Nat) : Int) from by omega) ?_
    refine zV_jsipush dX4_keeps_54 (by decide) ?_
    refine zc_S (y' := zX4_copies) (as := [.ref (o + 1), .int (jI (0)), .ref (o + 5), .int (jI (((171 * L.length : Nat) : Int))), .int (jI (171))]) (rest := []) bX4_copies dX4_keeps_57 q2027 q2028 (c_X4_copies (md_k_s hM) (md_k_past hM) (md_z_s hM) (md_z_past hM) (Nat.le_trans (md_ge hM) (by omega)) 0 (171 * L.length) 171 (by decide) (by omega) (by decide) (by decide) (Or.inl (by omega))) rfl rfl (by decide) (Nat.le_of_ble_eq_true rfl) (zk_V (fun h2 ⟨i1, i2⟩ _ => ?_))
    have c2 : zCh [o + 1, o + 5] o [6] h h2 := (zCh.rf : zCh [o + 1, o + 5] o [6] h h).tr (zCh.io (i1.mono (by simp)) (by simp))
    have hM2 := hM.ch c2
    have hP2 : gI h2 (o + 1) = P := (i1.row (by simp)).trans hP
    have n2 : gI h2 o 6 = ((L.length : Nat) : Int) := (congrFun (i1.row (by simp)) 6).trans hA
    refine zV_aload_n 0 dX4_keeps_60 rfl rfl (Or.inr ⟨_, rfl⟩) ?_
    refine zV_aload_n 0 dX4_keeps_61 rfl rfl (Or.inr ⟨_, rfl⟩) ?_
    refine zV_tgetf (ci := 3) (q := (RX4, TX4, 27)) 6 dX4_keeps_62 q1923 (md_k hM2) rfl (by decide) rfl (by decide) ?_
    refine zV.eq (show ((zI h2 o 6).toInt : Int) = ((L.length : Nat) : Int) from n2) ?_
    refine zV_iconst (n := 1) dX4_keeps_65 ?_
    refine zV_jadd dX4_keeps_66 ?_
    refine zV.eq (show (((L.length : Nat) : Int) + 1 : Int) = ((L.length + 1 : Nat) : Int) from by omega) ?_
    refine zV_putI (x := jI (((L.length + 1 : Nat) : Int))) (ci := 3) (q := (RX4, TX4, 27)) 6 dX4_keeps_67 q1923 (md_ge hM2) (md_k hM2) rfl (by decide) rfl (fun _ _ => rfl) rfl rfl (by decide) ?_
    have c3 := c2.puto (k := 6) (x := jI ((L.length + 1 : Nat) : Int)) (by simp)
    have n3 : gI (sI h2 o 6 (jI ((L.length + 1 : Nat) : Int))) o 6 = ((L.length + 1 : Nat) : Int) := gI_put_s ⟨by omega, by omega⟩
    have r3 : gI (sI h2 o 6 (jI ((L.length + 1 : Nat) : Int))) (o + 5) = gI h2 (o + 5) := funext (fun j => gI_ne (by omega))
    have hP3 : gI (sI h2 o 6 (jI ((L.length + 1 : Nat) : Int))) (o + 1) = P := (funext (fun j => gI_ne (by omega))).trans hP2
    generalize sI h2 o 6 (jI ((L.length + 1 : Nat) : Int)) = h3 at c3 n3 r3 hP3 ⊢
    have hM3 := hM.ch c3
    refine zV_aload_n 0 dX4_keeps_70 rfl rfl (Or.inr ⟨_, rfl⟩) ?_
    refine zV_iload_n 1 dX4_keeps_71 rfl rfl ?_
    refine zV_iload_n 2 dX4_keeps_72 rfl rfl ?_
    refine zc_V (y' := zX4_counts) (as := [.int (jI (((c : Nat) : Int))), .int (jI (v))]) (rest := []) (ci := 3) (q := (RX4, TX4, 27)) bX4_counts dX4_keeps_73 q2521 q2523 qs133 (md_k hM3) rfl (c_X4_counts hM3 hP3 c hc v) rfl rfl (by decide) (Nat.le_of_ble_eq_true rfl) (by decide) (zk_V (fun h4 ⟨k1, k2⟩ _ => ?_))
    have rr := (k1.row (q := o + 5) (by simp)).trans (r3.trans i2)
    refine zV_return dX4_keeps_76 rfl ⟨rfl, ⟨c3.tr (zCh.io (k1.mono (by simp)) (by simp)), (congrFun (k1.row (by simp)) 6).trans (n3.trans ?_), ?_⟩, k2⟩
    · rw [kps, if_neg (by omega), List.length_append]; rfl
    · rw [rr, kps, if_neg (by omega), hP]; exact paR_add hAR
  · refine zV_aload_n 0 dX4_keeps_9 rfl rfl (Or.inr ⟨_, rfl⟩) ?_
    refine zV_getf (v := .ref (o + 5)) (ci := 3) (q := (RX4, TX4, 27)) 5 dX4_keeps_10 q1922 (md_k hM) rfl (by decide) (congrArg va_rf (md_r_past hM)) (by decide) ?_
    refine zV_jsipush dX4_keeps_13 (by decide) ?_
    refine zV_aload_n 0 dX4_keeps_16 rfl rfl (Or.inr ⟨_, rfl⟩) ?_
    refine zV_getf (v := .ref (o + 5)) (ci := 3) (q := (RX4, TX4, 27)) 5 dX4_keeps_17 q1922 (md_k hM) rfl (by decide) (congrArg va_rf (md_r_past hM)) (by decide) ?_
    refine zV_iconst (n := 0) dX4_keeps_20 ?_
    refine zV_jsipush dX4_keeps_21 (by decide) ?_
    refine zc_S (y' := zX4_copies) (as := [.ref (o + 5), .int (jI (171)), .ref (o + 5), .int (jI (0)), .int (jI (1197))]) (rest := []) bX4_copies dX4_keeps_24 q2027 q2028 (c_X4_copies (md_k_past hM) (md_k_past hM) (md_z_past hM) (md_z_past hM) (Nat.le_trans (md_ge hM) (by omega)) 171 0 1197 (by decide) (by decide) (by decide) (by decide) (Or.inr (by decide))) rfl rfl (by decide) (Nat.le_of_ble_eq_true rfl) (zk_V (fun g1 ⟨j1, j2⟩ _ => ?_))
    have d1 : zCh [o + 1, o + 5] o [6] h g1 := zCh.io (j1.mono (by simp)) (by simp)
    have gM1 := hM.ch d1
    have m1 : gI g1 o 6 = (L.length : Int) := (congrFun (j1.row (by simp)) 6).trans hA
    refine zV_aload_n 0 dX4_keeps_27 rfl rfl (Or.inr ⟨_, rfl⟩) ?_
    refine zV_aload_n 0 dX4_keeps_28 rfl rfl (Or.inr ⟨_, rfl⟩) ?_
    refine zV_tgetf (ci := 3) (q := (RX4, TX4, 27)) 6 dX4_keeps_29 q1923 (md_k gM1) rfl (by decide) rfl (by decide) ?_
    refine zV.eq (show ((zI g1 o 6).toInt : Int) = ((L.length : Nat) : Int) from m1) ?_
    refine zV_iconst (n := 1) dX4_keeps_32 ?_
    refine zV_jsub dX4_keeps_33 ?_
    refine zV.eq (show (((L.length : Nat) : Int) - 1 : Int) = ((7 : Nat) : Int) from by omega) ?_
    refine zV_putI (x := jI (((7 : Nat) : Int))) (ci := 3) (q := (RX4, TX4, 27)) 6 dX4_keeps_34 q1923 (md_ge gM1) (md_k gM1) rfl (by decide) rfl (fun _ _ => rfl) rfl rfl (by decide) ?_
    have d2 := d1.puto (k := 6) (x := jI ((7 : Nat) : Int)) (by simp)
    have m2 : gI (sI g1 o 6 (jI ((7 : Nat) : Int))) o 6 = ((7 : Nat) : Int) := gI_put_s ⟨by decide, by decide⟩
    have s2 : gI (sI g1 o 6 (jI ((7 : Nat) : Int))) (o + 5) = gI g1 (o + 5) := funext (fun j => gI_ne (by omega))
    have gP2 : gI (sI g1 o 6 (jI ((7 : Nat) : Int))) (o + 1) = P := (funext (fun j => gI_ne (by omega))).trans ((j1.row (by simp)).trans hP)
    generalize sI g1 o 6 (jI ((7 : Nat) : Int)) = g2 at d2 m2 s2 gP2 ⊢
    have gM2 := hM.ch d2
    refine zV_aload_n 0 dX4_keeps_37 rfl rfl (Or.inr ⟨_, rfl⟩) ?_
    refine zV_getf (v := .ref (o + 1)) (ci := 3) (q := (RX4, TX4, 27)) 1 dX4_keeps_38 q1918 (md_k gM2) rfl (by decide) (congrArg va_rf (md_r_s gM2)) (by decide) ?_
    refine zV_iconst (n := 0) dX4_keeps_41 ?_
    refine zV_aload_n 0 dX4_keeps_42 rfl rfl (Or.inr ⟨_, rfl⟩) ?_
    refine zV_getf (v := .ref (o + 5)) (ci := 3) (q := (RX4, TX4, 27)) 5 dX4_keeps_43 q1922 (md_k gM2) rfl (by decide) (congrArg va_rf (md_r_past gM2)) (by decide) ?_
    refine zV_jsipush dX4_keeps_46 (by decide) ?_
    refine zV_aload_n 0 dX4_keeps_49 rfl rfl (Or.inr ⟨_, rfl⟩) ?_
    refine zV_tgetf (ci := 3) (q := (RX4, TX4, 27)) 6 dX4_keeps_50 q1923 (md_k gM2) rfl (by decide) rfl (by decide) ?_
    refine zV.eq (show ((zI g2 o 6).toInt : Int) = ((7 : Nat) : Int) from m2) ?_
    refine zV_jmul dX4_keeps_53 ?_
    refine zV.eq (show (171 * ((7 : Nat) : Int) : Int) = ((171 * 7 : Nat) : Int) from by omega) ?_
    refine zV_jsipush dX4_keeps_54 (by decide) ?_
    refine zc_S (y' := zX4_copies) (as := [.ref (o + 1), .int (jI (0)), .ref (o + 5), .int (jI (((171 * 7 : Nat) : Int))), .int (jI (171))]) (rest := []) bX4_copies dX4_keeps_57 q2027 q2028 (c_X4_copies (md_k_s gM2) (md_k_past gM2) (md_z_s gM2) (md_z_past gM2) (Nat.le_trans (md_ge gM2) (by omega)) 0 (171 * 7) 171 (by decide) (by omega) (by decide) (by decide) (Or.inl (by omega))) rfl rfl (by decide) (Nat.le_of_ble_eq_true rfl) (zk_V (fun h2 ⟨i1, i2⟩ _ => ?_))
    have c2 : zCh [o + 1, o + 5] o [6] h h2 := d2.tr (zCh.io (i1.mono (by simp)) (by simp))
    have hM2 := hM.ch c2
    have hP2 : gI h2 (o + 1) = P := (i1.row (by simp)).trans gP2
    have n2 : gI h2 o 6 = ((7 : Nat) : Int) := (congrFun (i1.row (by simp)) 6).trans m2
    refine zV_aload_n 0 dX4_keeps_60 rfl rfl (Or.inr ⟨_, rfl⟩) ?_
    refine zV_aload_n 0 dX4_keeps_61 rfl rfl (Or.inr ⟨_, rfl⟩) ?_
    refine zV_tgetf (ci := 3) (q := (RX4, TX4, 27)) 6 dX4_keeps_62 q1923 (md_k hM2) rfl (by decide) rfl (by decide) ?_
    refine zV.eq (show ((zI h2 o 6).toInt : Int) = ((7 : Nat) : Int) from n2) ?_
    refine zV_iconst (n := 1) dX4_keeps_65 ?_
    refine zV_jadd dX4_keeps_66 ?_
    refine zV.eq (show (((7 : Nat) : Int) + 1 : Int) = ((7 + 1 : Nat) : Int) from by omega) ?_
    refine zV_putI (x := jI (((7 + 1 : Nat) : Int))) (ci := 3) (q := (RX4, TX4, 27)) 6 dX4_keeps_67 q1923 (md_ge hM2) (md_k hM2) rfl (by decide) rfl (fun _ _ => rfl) rfl rfl (by decide) ?_
    have c3 := c2.puto (k := 6) (x := jI ((7 + 1 : Nat) : Int)) (by simp)
    have n3 : gI (sI h2 o 6 (jI ((7 + 1 : Nat) : Int))) o 6 = ((7 + 1 : Nat) : Int) := gI_put_s ⟨by omega, by omega⟩
    have r3 : gI (sI h2 o 6 (jI ((7 + 1 : Nat) : Int))) (o + 5) = gI h2 (o + 5) := funext (fun j => gI_ne (by omega))
    have hP3 : gI (sI h2 o 6 (jI ((7 + 1 : Nat) : Int))) (o + 1) = P := (funext (fun j => gI_ne (by omega))).trans hP2
    generalize sI h2 o 6 (jI ((7 + 1 : Nat) : Int)) = h3 at c3 n3 r3 hP3 ⊢
    have hM3 := hM.ch c3
    refine zV_aload_n 0 dX4_keeps_70 rfl rfl (Or.inr ⟨_, rfl⟩) ?_
    refine zV_iload_n 1 dX4_keeps_71 rfl rfl ?_
    refine zV_iload_n 2 dX4_keeps_72 rfl rfl ?_
    refine zc_V (y' := zX4_counts) (as := [.int (jI (((c : Nat) : Int))), .int (jI (v))]) (rest := []) (ci := 3) (q := (RX4, TX4, 27)) bX4_counts dX4_keeps_73 q2521 q2523 qs133 (md_k hM3) rfl (c_X4_counts hM3 hP3 c hc v) rfl rfl (by decide) (Nat.le_of_ble_eq_true rfl) (by decide) (zk_V (fun h4 ⟨k1, k2⟩ _ => ?_))
    have rr := (k1.row (q := o + 5) (by simp)).trans (r3.trans i2)
    refine zV_return dX4_keeps_76 rfl ⟨rfl, ⟨c3.tr (zCh.io (k1.mono (by simp)) (by simp)), (congrFun (k1.row (by simp)) 6).trans (n3.trans ?_), ?_⟩, k2⟩
    · rw [kps, if_pos (by omega), List.length_append, List.length_drop, show L.length = 8 by omega]; rfl
    · rw [rr, kps, if_pos (by omega), gP2, s2, j2]
      have := paR_add (P := P) (paR_drop hAR (by omega))
      rw [List.length_drop, show L.length - 1 = 7 by omega] at this
      exact this
theorem c_X4_changes (hM : MdL h o) (hP : gI h (o + 1) = P) {L : List pRow} (hA : gI h o 6 = (L.length : Int)) (hA8 : L.length ≤ 8) (hAR : paR (gI h (o + 5)) L) (k c : Nat) (hk : k < 171) (hc : c < 6) (hne : k ≠ c + 37) (v : Int) (hv : jr v) : zM G zX4_changes 2 [.ref o, .int (jI (k : Int)), .int (jI v), .int (jI (c : Int))] h (zOkI (fun z h1 => z = P k ∧ (zCh [o + 1, o + 5] o [6] h h1 ∧ gI h1 o 6 = ((kps P L).length : Int) ∧ paR (gI h1 (o + 5)) (kps P L)) ∧ gI h1 (o + 1) = pSet (acc P c 1) k v)) := by
  refine zM.ofV (lv := [(0, .ref o), (1, .int (jI (((k : Nat) : Int)))), (2, .int (jI (v))), (3, .int (jI (((c : Nat) : Int))))]) (by decide +kernel) (Nat.le_of_ble_eq_true rfl) rfl ?_
  refine zV_aload_n 0 dX4_changes_0 rfl rfl (Or.inr ⟨_, rfl⟩) ?_
  refine zV_iload_n 3 dX4_changes_1 rfl rfl ?_
  refine zV_iconst (n := 1) dX4_changes_2 ?_
  refine zc_V (y' := zX4_keeps) (as := [.int (jI (((c : Nat) : Int))), .int (jI (1))]) (rest := []) (ci := 3) (q := (RX4, TX4, 27)) bX4_keeps dX4_changes_3 q2517 q2519 qs132 (md_k hM) rfl (c_X4_keeps hM hP hA hA8 hAR c hc 1) rfl rfl (by decide) (Nat.le_of_ble_eq_true rfl) (by decide) (zk_V (fun h1 ⟨⟨c1, n1, r1⟩, p1⟩ _ => ?_))
  have hM1 := hM.ch c1
  refine zV_aload_n 0 dX4_changes_6 rfl rfl (Or.inr ⟨_, rfl⟩) ?_
  refine zV_getf (v := .ref (o + 1)) (ci := 3) (q := (RX4, TX4, 27)) 1 dX4_changes_7 q1918 (md_k hM1) rfl (by decide) (congrArg va_rf (md_r_s hM1)) (by decide) ?_
  refine zV_iload_n 1 dX4_changes_10 rfl rfl ?_
  refine zV_tiald k 171 dX4_changes_11 (md_k_s hM1) (md_z_s hM1) (by omega) (by omega) (by omega) ?_
  refine zV.eq (congrFun p1 k) ?_
  refine zV.eq (show (acc P c 1 k : Int) = P k from pSet_ne hne) ?_
  refine zV_istore (lv' := [(0, .ref o), (1, .int (jI (((k : Nat) : Int)))), (2, .int (jI (v))), (3, .int (jI (((c : Nat) : Int)))), (4, .int (jI (P k)))]) dX4_changes_12 (by decide) rfl rfl ?_
  refine zV_aload_n 0 dX4_changes_14 rfl rfl (Or.inr ⟨_, rfl⟩) ?_
  refine zV_getf (v := .ref (o + 1)) (ci := 3) (q := (RX4, TX4, 27)) 1 dX4_changes_15 q1918 (md_k hM1) rfl (by decide) (congrArg va_rf (md_r_s hM1)) (by decide) ?_
  refine zV_iload_n 1 dX4_changes_18 rfl rfl ?_
  refine zV_iload_n 2 dX4_changes_19 rfl rfl ?_
  refine zV_jiast (x := jI (v)) k 171 dX4_changes_20 (md_k_s hM1) (Nat.le_trans (md_ge hM1) (by omega)) (md_z_s hM1) (by omega) (by omega) (by omega) ?_
  refine zV_iload dX4_changes_21 rfl ?_
  exact zV_ireturn dX4_changes_23 rfl rfl ⟨_, rfl, rfl, ⟨c1.put (by simp) (by omega), (gI_ne (by omega)).trans n1, by rw [show gI (sI h1 (o + 1) k (jI v)) (o + 5) = gI h1 (o + 5) from funext (fun j => gI_ne (by omega))]; exact r1⟩, gI_pSet hv p1⟩
theorem c_X4_put {L : List pRow} {K : Option pRow} {I U : Nat × pRow} {E : Int × Int} (hS : MdS h o (P, L, K, I, E, U)) (a : Int) (ha : jr a) (b : Int) (hb : jr b) : zM G zX4_put 3 [.ref o, .int (jI a), .int (jI b)] h (zCg o (ma2 (0 ≤ a ∧ a < P 0) (0 ≤ b ∧ b ≤ 25)) (P (a.toNat + 43)) (P, L, K, I, E, U) (pSet (acc P 0 1) (a.toNat + 43) b, kps P L, K, I, E, U)) := by
  have hM : MdL h o := hS.1; have hP : gI h (o + 1) = P := hS.2.1.1; have hw : pWf P := hS.2.1.2.1; have hMA : mdA h o L := hS.2.2.1; obtain ⟨hA, hA8, hAll, hAR⟩ := hMA
  obtain ⟨w0, w0b, w1, w1b, w2, w2b, w3, w3b, w4, w4b, w5, w5b, wp, wl, wn⟩ := id hw
  refine zM.ofV (lv := [(0, .ref o), (1, .int (jI (a))), (2, .int (jI (b)))]) (by decide +kernel) (Nat.le_of_ble_eq_true rfl) rfl ?_
  refine zV_aload_n 0 dX4_put_0 rfl rfl (Or.inr ⟨_, rfl⟩) ?_
  refine zV_aload_n 0 dX4_put_1 rfl rfl (Or.inr ⟨_, rfl⟩) ?_
  refine zV_iload_n 1 dX4_put_2 rfl rfl ?_
  refine zc_V (y' := zX4_isPlace) (as := [.int (jI (a))]) (rest := [.ref o]) (ci := 3) (q := (RX4, TX4, 27)) bX4_isPlace dX4_put_3 q2256 q2258 qs90 (md_k hM) rfl (c_X4_isPlace hM hP hw a ha) rfl rfl (by decide) (Nat.le_of_ble_eq_true rfl) (by decide) (zk_J1 ?_)
  refine zV_iload_n 2 dX4_put_6 rfl rfl ?_
  refine zV_iconst (n := 0) dX4_put_7 ?_
  refine zV_jbipush dX4_put_8 (by decide) ?_
  refine zc_S (y' := zX4_isIn) (as := [.int (jI (b)), .int (jI (0)), .int (jI (25))]) (rest := [.int (jI (bI (0 ≤ a ∧ a < P 0))), .ref o]) bX4_isIn dX4_put_10 q2012 q2013 (c_X4_isIn (b) (0) (25) hb ⟨by decide, by decide⟩ ⟨by decide, by decide⟩) rfl rfl (by decide) (Nat.le_of_ble_eq_true rfl) (zk_J1 ?_)
  refine zc_V (y' := zX4_mayTwo) (as := [.int (jI (bI (0 ≤ a ∧ a < P 0))), .int (jI (bI (0 ≤ b ∧ b ≤ 25)))]) (rest := []) (ci := 3) (q := (RX4, TX4, 27)) bX4_mayTwo dX4_put_13 q2145 q2147 qs70 (md_k hM) rfl (c_X4_mayTwo hM (0 ≤ a ∧ a < P 0) (0 ≤ b ∧ b ≤ 25)) rfl rfl (by decide) (Nat.le_of_ble_eq_true rfl) (by decide) (zk_I (fun z h1 ⟨ez, i0⟩ _ => ?_))
  subst ez
  have hM1 : MdL h1 o := hM.ch i0.1
  have hP1 : gI h1 (o + 1) = P := (i0.1.row (by simp)).trans hP
  by_cases cm : (0 ≤ a ∧ a < P 0) ∧ (0 ≤ b ∧ b ≤ 25)
  · refine zV.eq (show (bI ((0 ≤ a ∧ a < P 0) ∧ (0 ≤ b ∧ b ≤ 25)) : Int) = 1 from bI_t cm) ?_
    refine zV_jif_eq 32 dX4_put_16 rfl ⟨by decide, by decide⟩ (fun c_ => absurd c_ (by decide)) (fun _ => ?_)
    have hS1 := hS.sc i0.go0.1
    have gMA : mdA h1 o L := hS1.2.2.1
    obtain ⟨gA, gA8, gAll, gAR⟩ := gMA
    obtain ⟨p, rfl⟩ : ∃ n_ : Nat, a = (n_ : Int) := ⟨(a).toNat, by omega⟩
    refine zV_aload_n 0 dX4_put_19 rfl rfl (Or.inr ⟨_, rfl⟩) ?_
    refine zV_jbipush dX4_put_20 (by decide) ?_
    refine zV_iload_n 1 dX4_put_22 rfl rfl ?_
    refine zV_jadd dX4_put_23 ?_
    refine zV.eq (show (43 + ((p : Nat) : Int) : Int) = ((p + 43 : Nat) : Int) from by omega) ?_
    refine zV_iload_n 2 dX4_put_24 rfl rfl ?_
    refine zV_iconst (n := 0) dX4_put_25 ?_
    refine zc_V (y' := zX4_changes) (as := [.int (jI (((p + 43 : Nat) : Int))), .int (jI (b)), .int (jI (0))]) (rest := []) (ci := 3) (q := (RX4, TX4, 27)) bX4_changes dX4_put_26 q2513 q2515 qs131 (md_k hM1) rfl (c_X4_changes hM1 hP1 gA gA8 gAR (p + 43) 0 (by omega) (by decide) (by omega) b hb) rfl rfl (by decide) (Nat.le_of_ble_eq_true rfl) (by decide) (zk_I (fun z h2 ⟨ez, ⟨w2, n2, r2⟩, p2⟩ _ => ?_))
    subst ez
    have hok : pOk (pSet (acc P 0 1) (p + 43) b) := ⟨pWf_letter (pWf_acc hw (by decide)) ⟨by omega, by omega⟩ (by rw [acc_0]; omega), tl_pSet (by omega) (pOk_acc hS.2.1.2 (by decide)).2⟩
    have hS2 : MdS h2 o (pSet (acc P 0 1) (p + 43) b, kps P L, K, I, E, U) := hS1.upd (w2.mono (by simp) (by simp)) ⟨p2, hok⟩ ⟨n2, kps_le gA8, kps_ok gAll hS.2.1.2, r2⟩
    have t2 : gI h2 o 0 = 0 := (w2.2 0 (by simp)).trans (i0.2.trans (ma2_iff.mpr cm))
    refine zV_goto 33 dX4_put_29 rfl ?_
    exact zV_ireturn dX4_put_33 rfl rfl ⟨_, rfl, t2.trans (ma2_iff.mpr cm).symm, fun _ => ⟨rfl, hS2⟩, fun e => absurd (ma2_iff.mpr cm) e⟩
  · refine zV.eq (show (bI ((0 ≤ a ∧ a < P 0) ∧ (0 ≤ b ∧ b ≤ 25)) : Int) = 0 from bI_f cm) ?_
    refine zV_jif_eq 32 dX4_put_16 rfl ⟨by decide, by decide⟩ (fun _ => ?_) (fun c_ => absurd c_ (by decide))
    refine zV_iconst (n := 0) dX4_put_32 ?_
    exact zV_ireturn dX4_put_33 rfl rfl ⟨_, rfl, i0.2, fun e => absurd e (ma2_ne cm), fun _ => hS.sc i0.go0.1⟩
theorem c_X4_setPrice {L : List pRow} {K : Option pRow} {I U : Nat × pRow} {E : Int × Int} (hS : MdS h o (P, L, K, I, E, U)) (a : Int) (ha : jr a) (b : Int) (hb : jr b) : zM G zX4_setPrice 3 [.ref o, .int (jI a), .int (jI b)] h (zCg o (ma1 ((0 ≤ a ∧ a ≤ 30) ∧ (0 ≤ b ∧ b ≤ 40))) (P (a.toNat + 6)) (P, L, K, I, E, U) (pSet (acc P 5 1) (a.toNat + 6) b, kps P L, K, I, E, U)) := by
  have hM : MdL h o := hS.1; have hP : gI h (o + 1) = P := hS.2.1.1; have hw : pWf P := hS.2.1.2.1; have hMA : mdA h o L := hS.2.2.1; obtain ⟨hA, hA8, hAll, hAR⟩ := hMA
  obtain ⟨w0, w0b, w1, w1b, w2, w2b, w3, w3b, w4, w4b, w5, w5b, wp, wl, wn⟩ := id hw
  refine zM.ofV (lv := [(0, .ref o), (1, .int (jI (a))), (2, .int (jI (b)))]) (by decide +kernel) (Nat.le_of_ble_eq_true rfl) rfl ?_
  refine zV_aload_n 0 dX4_setPrice_0 rfl rfl (Or.inr ⟨_, rfl⟩) ?_
  refine zV_iload_n 1 dX4_setPrice_1 rfl rfl ?_
  refine zc_S (y' := zX4_isPrice) (as := [.int (jI (a))]) (rest := [.ref o]) bX4_isPrice dX4_setPrice_2 q2245 q2246 (c_X4_isPrice a ha) rfl rfl (by decide) (Nat.le_of_ble_eq_true rfl) (zk_J1 ?_)
  by_cases c1 : 0 ≤ a ∧ a ≤ 30
  · refine zV.eq (show (bI (0 ≤ a ∧ a ≤ 30) : Int) = 1 from bI_t c1) ?_
    refine zV_jif_eq 22 dX4_setPrice_5 rfl ⟨by decide, by decide⟩ (fun c_ => absurd c_ (by decide)) (fun _ => ?_)
    refine zV_iload_n 2 dX4_setPrice_8 rfl rfl ?_
    refine zV_iconst (n := 0) dX4_setPrice_9 ?_
    refine zV_jbipush dX4_setPrice_10 (by decide) ?_
    refine zc_S (y' := zX4_isIn) (as := [.int (jI (b)), .int (jI (0)), .int (jI (40))]) (rest := [.ref o]) bX4_isIn dX4_setPrice_12 q2012 q2013 (c_X4_isIn (b) (0) (40) hb ⟨by decide, by decide⟩ ⟨by decide, by decide⟩) rfl rfl (by decide) (Nat.le_of_ble_eq_true rfl) (zk_J1 ?_)
    by_cases c2 : 0 ≤ b ∧ b ≤ 40
    · refine zV.eq (show (bI (0 ≤ b ∧ b ≤ 40) : Int) = 1 from bI_t c2) ?_
      refine zV_jif_eq 22 dX4_setPrice_15 rfl ⟨by decide, by decide⟩ (fun c_ => absurd c_ (by decide)) (fun _ => ?_)
      refine zV_iconst (n := 1) dX4_setPrice_18 ?_
      refine zV_goto 23 dX4_setPrice_19 rfl ?_
      refine zV.eq (show (1 : Int) = bI ((0 ≤ a ∧ a ≤ 30) ∧ (0 ≤ b ∧ b ≤ 40)) from (bI_t ⟨c1, c2⟩).symm) ?_
      refine zc_V (y' := zX4_mayOne) (as := [.int (jI (bI ((0 ≤ a ∧ a ≤ 30) ∧ (0 ≤ b ∧ b ≤ 40))))]) (rest := []) (ci := 3) (q := (RX4, TX4, 27)) bX4_mayOne dX4_setPrice_23 q2141 q2143 qs69 (md_k hM) rfl (c_X4_mayOne hM ((0 ≤ a ∧ a ≤ 30) ∧ (0 ≤ b ∧ b ≤ 40))) rfl rfl (by decide) (Nat.le_of_ble_eq_true rfl) (by decide) (zk_I (fun z h1 ⟨ez, i0⟩ _ => ?_))
      subst ez
      have hM1 : MdL h1 o := hM.ch i0.1
      have hP1 : gI h1 (o + 1) = P := (i0.1.row (by simp)).trans hP
      by_cases cm : (0 ≤ a ∧ a ≤ 30) ∧ (0 ≤ b ∧ b ≤ 40)
      · refine zV.eq (show (bI ((0 ≤ a ∧ a ≤ 30) ∧ (0 ≤ b ∧ b ≤ 40)) : Int) = 1 from bI_t cm) ?_
        refine zV_jif_eq 42 dX4_setPrice_26 rfl ⟨by decide, by decide⟩ (fun c_ => absurd c_ (by decide)) (fun _ => ?_)
        have hS1 := hS.sc i0.go0.1
        have gMA : mdA h1 o L := hS1.2.2.1
        obtain ⟨gA, gA8, gAll, gAR⟩ := gMA
        obtain ⟨p, rfl⟩ : ∃ n_ : Nat, a = (n_ : Int) := ⟨(a).toNat, by omega⟩
        refine zV_aload_n 0 dX4_setPrice_29 rfl rfl (Or.inr ⟨_, rfl⟩) ?_
        refine zV_jbipush dX4_setPrice_30 (by decide) ?_
        refine zV_iload_n 1 dX4_setPrice_32 rfl rfl ?_
        refine zV_jadd dX4_setPrice_33 ?_
        refine zV.eq (show (6 + ((p : Nat) : Int) : Int) = ((p + 6 : Nat) : Int) from by omega) ?_
        refine zV_iload_n 2 dX4_setPrice_34 rfl rfl ?_
        refine zV_iconst (n := 5) dX4_setPrice_35 ?_
        refine zc_V (y' := zX4_changes) (as := [.int (jI (((p + 6 : Nat) : Int))), .int (jI (b)), .int (jI (5))]) (rest := []) (ci := 3) (q := (RX4, TX4, 27)) bX4_changes dX4_setPrice_36 q2513 q2515 qs131 (md_k hM1) rfl (c_X4_changes hM1 hP1 gA gA8 gAR (p + 6) 5 (by omega) (by decide) (by omega) b hb) rfl rfl (by decide) (Nat.le_of_ble_eq_true rfl) (by decide) (zk_I (fun z h2 ⟨ez, ⟨w2, n2, r2⟩, p2⟩ _ => ?_))
        subst ez
        have hok : pOk (pSet (acc P 5 1) (p + 6) b) := ⟨pWf_price (pWf_acc hw (by decide)) (by omega) ⟨by omega, by omega⟩, tl_pSet (by omega) (pOk_acc hS.2.1.2 (by decide)).2⟩
        have hS2 : MdS h2 o (pSet (acc P 5 1) (p + 6) b, kps P L, K, I, E, U) := hS1.upd (w2.mono (by simp) (by simp)) ⟨p2, hok⟩ ⟨n2, kps_le gA8, kps_ok gAll hS.2.1.2, r2⟩
        have t2 : gI h2 o 0 = 0 := (w2.2 0 (by simp)).trans (i0.2.trans (ma2_iff.mpr ⟨cm, trivial⟩))
        refine zV_goto 43 dX4_setPrice_39 rfl ?_
        exact zV_ireturn dX4_setPrice_43 rfl rfl ⟨_, rfl, t2.trans (ma2_iff.mpr ⟨cm, trivial⟩).symm, fun _ => ⟨rfl, hS2⟩, fun e => absurd (ma2_iff.mpr ⟨cm, trivial⟩) e⟩
      · exact absurd ⟨c1, c2⟩ cm
    · refine zV.eq (show (bI (0 ≤ b ∧ b ≤ 40) : Int) = 0 from bI_f c2) ?_
      refine zV_jif_eq 22 dX4_setPrice_15 rfl ⟨by decide, by decide⟩ (fun _ => ?_) (fun c_ => absurd c_ (by decide))
      refine zV_iconst (n := 0) dX4_setPrice_22 ?_
      refine zV.eq (show (0 : Int) = bI ((0 ≤ a ∧ a ≤ 30) ∧ (0 ≤ b ∧ b ≤ 40)) from (bI_f (fun z => c2 z.2)).symm) ?_
      refine zc_V (y' := zX4_mayOne) (as := [.int (jI (bI ((0 ≤ a ∧ a ≤ 30) ∧ (0 ≤ b ∧ b ≤ 40))))]) (rest := []) (ci := 3) (q := (RX4, TX4, 27)) bX4_mayOne dX4_setPrice_23 q2141 q2143 qs69 (md_k hM) rfl (c_X4_mayOne hM ((0 ≤ a ∧ a ≤ 30) ∧ (0 ≤ b ∧ b ≤ 40))) rfl rfl (by decide) (Nat.le_of_ble_eq_true rfl) (by decide) (zk_I (fun z h1 ⟨ez, i0⟩ _ => ?_))
      subst ez
      have hM1 : MdL h1 o := hM.ch i0.1
      have hP1 : gI h1 (o + 1) = P := (i0.1.row (by simp)).trans hP
      by_cases cm : (0 ≤ a ∧ a ≤ 30) ∧ (0 ≤ b ∧ b ≤ 40)
      · exact absurd cm.2 c2
      · refine zV.eq (show (bI ((0 ≤ a ∧ a ≤ 30) ∧ (0 ≤ b ∧ b ≤ 40)) : Int) = 0 from bI_f cm) ?_
        refine zV_jif_eq 42 dX4_setPrice_26 rfl ⟨by decide, by decide⟩ (fun _ => ?_) (fun c_ => absurd c_ (by decide))
        refine zV_iconst (n := 0) dX4_setPrice_42 ?_
        exact zV_ireturn dX4_setPrice_43 rfl rfl ⟨_, rfl, i0.2, fun e => absurd e (ma1_ne cm), fun _ => hS.sc i0.go0.1⟩
  · refine zV.eq (show (bI (0 ≤ a ∧ a ≤ 30) : Int) = 0 from bI_f c1) ?_
    refine zV_jif_eq 22 dX4_setPrice_5 rfl ⟨by decide, by decide⟩ (fun _ => ?_) (fun c_ => absurd c_ (by decide))
    refine zV_iconst (n := 0) dX4_setPrice_22 ?_
    refine zV.eq (show (0 : Int) = bI ((0 ≤ a ∧ a ≤ 30) ∧ (0 ≤ b ∧ b ≤ 40)) from (bI_f (fun z => c1 z.1)).symm) ?_
    refine zc_V (y' := zX4_mayOne) (as := [.int (jI (bI ((0 ≤ a ∧ a ≤ 30) ∧ (0 ≤ b ∧ b ≤ 40))))]) (rest := []) (ci := 3) (q := (RX4, TX4, 27)) bX4_mayOne dX4_setPrice_23 q2141 q2143 qs69 (md_k hM) rfl (c_X4_mayOne hM ((0 ≤ a ∧ a ≤ 30) ∧ (0 ≤ b ∧ b ≤ 40))) rfl rfl (by decide) (Nat.le_of_ble_eq_true rfl) (by decide) (zk_I (fun z h1 ⟨ez, i0⟩ _ => ?_))
    subst ez
    have hM1 : MdL h1 o := hM.ch i0.1
    have hP1 : gI h1 (o + 1) = P := (i0.1.row (by simp)).trans hP
    by_cases cm : (0 ≤ a ∧ a ≤ 30) ∧ (0 ≤ b ∧ b ≤ 40)
    · exact absurd cm.1 c1
    · refine zV.eq (show (bI ((0 ≤ a ∧ a ≤ 30) ∧ (0 ≤ b ∧ b ≤ 40)) : Int) = 0 from bI_f cm) ?_
      refine zV_jif_eq 42 dX4_setPrice_26 rfl ⟨by decide, by decide⟩ (fun _ => ?_) (fun c_ => absurd c_ (by decide))
      refine zV_iconst (n := 0) dX4_setPrice_42 ?_
      exact zV_ireturn dX4_setPrice_43 rfl rfl ⟨_, rfl, i0.2, fun e => absurd e (ma1_ne cm), fun _ => hS.sc i0.go0.1⟩
theorem lms_le (k : Nat) : lsO k ≤ 40 ∧ msO k ≤ 40 := by
  unfold lsO msO
  constructor
  · split
    · decide
    · split <;> decide
  · split
    · decide
    · split
      · decide
      · split
        · decide
        · split <;> decide
theorem c_X4_set_2 {L : List pRow} {K : Option pRow} {I U : Nat × pRow} {E : Int × Int} (hS : MdS h o (P, L, K, I, E, U)) (a : Int) (ha : jr a) (b : Int) (hb : jr b) : zM G zX4_set_2 3 [.ref o, .int (jI a), .int (jI b)] h (zCg o (ma1 ((0 ≤ a ∧ a ≤ 4) ∧ (((lsO a.toNat : Nat) : Int) ≤ b ∧ b ≤ ((msO a.toNat : Nat) : Int)))) (P (a.toNat + 1)) (P, L, K, I, E, U) (pSet (acc P 4 1) (a.toNat + 1) b, kps P L, K, I, E, U)) := by
  have hM : MdL h o := hS.1; have hP : gI h (o + 1) = P := hS.2.1.1; have hw : pWf P := hS.2.1.2.1; have hMA : mdA h o L := hS.2.2.1; obtain ⟨hA, hA8, hAll, hAR⟩ := hMA
  obtain ⟨w0, w0b, w1, w1b, w2, w2b, w3, w3b, w4, w4b, w5, w5b, wp, wl, wn⟩ := id hw
  refine zM.ofV (lv := [(0, .ref o), (1, .int (jI (a))), (2, .int (jI (b)))]) (by decide +kernel) (Nat.le_of_ble_eq_true rfl) rfl ?_
  refine zV_aload_n 0 dX4_set_2_0 rfl rfl (Or.inr ⟨_, rfl⟩) ?_
  refine zV_iload_n 1 dX4_set_2_1 rfl rfl ?_
  refine zc_S (y' := zX4_isSetting) (as := [.int (jI (a))]) (rest := [.ref o]) bX4_isSetting dX4_set_2_2 q2238 q2239 (c_X4_isSetting a ha) rfl rfl (by decide) (Nat.le_of_ble_eq_true rfl) (zk_J1 ?_)
  by_cases c1 : 0 ≤ a ∧ a ≤ 4
  · refine zV.eq (show (bI (0 ≤ a ∧ a ≤ 4) : Int) = 1 from bI_t c1) ?_
    refine zV_jif_eq 27 dX4_set_2_5 rfl ⟨by decide, by decide⟩ (fun c_ => absurd c_ (by decide)) (fun _ => ?_)
    obtain ⟨k, rfl⟩ : ∃ n_ : Nat, a = (n_ : Int) := ⟨(a).toNat, by omega⟩
    have hls := lms_le k
    refine zV_iload_n 2 dX4_set_2_8 rfl rfl ?_
    refine zV_iload_n 1 dX4_set_2_9 rfl rfl ?_
    refine zc_S (y' := zX4_leastOf) (as := [.int (jI (((k : Nat) : Int)))]) (rest := [.int (jI (b)), .ref o]) bX4_leastOf dX4_set_2_10 q2114 q2115 (c_X4_leastOf k (by omega)) rfl rfl (by decide) (Nat.le_of_ble_eq_true rfl) (zk_J1 ?_)
    refine zV_iload_n 1 dX4_set_2_13 rfl rfl ?_
    refine zc_S (y' := zX4_mostOf) (as := [.int (jI (((k : Nat) : Int)))]) (rest := [.int (jI (((lsO k : Nat) : Int))), .int (jI (b)), .ref o]) bX4_mostOf dX4_set_2_14 q2117 q2118 (c_X4_mostOf k (by omega)) rfl rfl (by decide) (Nat.le_of_ble_eq_true rfl) (zk_J1 ?_)
    refine zc_S (y' := zX4_isIn) (as := [.int (jI (b)), .int (jI (((lsO k : Nat) : Int))), .int (jI (((msO k : Nat) : Int)))]) (rest := [.ref o]) bX4_isIn dX4_set_2_17 q2012 q2013 (c_X4_isIn (b) (((lsO k : Nat) : Int)) (((msO k : Nat) : Int)) hb ⟨by omega, by omega⟩ ⟨by omega, by omega⟩) rfl rfl (by decide) (Nat.le_of_ble_eq_true rfl) (zk_J1 ?_)
    by_cases c2 : ((lsO k : Nat) : Int) ≤ b ∧ b ≤ ((msO k : Nat) : Int)
    · refine zV.eq (show (bI (((lsO k : Nat) : Int) ≤ b ∧ b ≤ ((msO k : Nat) : Int)) : Int) = 1 from bI_t c2) ?_
      refine zV_jif_eq 27 dX4_set_2_20 rfl ⟨by decide, by decide⟩ (fun c_ => absurd c_ (by decide)) (fun _ => ?_)
      refine zV_iconst (n := 1) dX4_set_2_23 ?_
      refine zV_goto 28 dX4_set_2_24 rfl ?_
      refine zV.eq (show (1 : Int) = bI ((0 ≤ ((k : Nat) : Int) ∧ ((k : Nat) : Int) ≤ 4) ∧ (((lsO ((k : Nat) : Int).toNat : Nat) : Int) ≤ b ∧ b ≤ ((msO ((k : Nat) : Int).toNat : Nat) : Int))) from (bI_t ⟨c1, c2⟩).symm) ?_
      refine zc_V (y' := zX4_mayOne) (as := [.int (jI (bI ((0 ≤ ((k : Nat) : Int) ∧ ((k : Nat) : Int) ≤ 4) ∧ (((lsO ((k : Nat) : Int).toNat : Nat) : Int) ≤ b ∧ b ≤ ((msO ((k : Nat) : Int).toNat : Nat) : Int)))))]) (rest := []) (ci := 3) (q := (RX4, TX4, 27)) bX4_mayOne dX4_set_2_28 q2141 q2143 qs69 (md_k hM) rfl (c_X4_mayOne hM ((0 ≤ ((k : Nat) : Int) ∧ ((k : Nat) : Int) ≤ 4) ∧ (((lsO ((k : Nat) : Int).toNat : Nat) : Int) ≤ b ∧ b ≤ ((msO ((k : Nat) : Int).toNat : Nat) : Int)))) rfl rfl (by decide) (Nat.le_of_ble_eq_true rfl) (by decide) (zk_I (fun z h1 ⟨ez, i0⟩ _ => ?_))
      subst ez
      have hM1 : MdL h1 o := hM.ch i0.1
      have hP1 : gI h1 (o + 1) = P := (i0.1.row (by simp)).trans hP
      by_cases cm : (0 ≤ ((k : Nat) : Int) ∧ ((k : Nat) : Int) ≤ 4) ∧ (((lsO ((k : Nat) : Int).toNat : Nat) : Int) ≤ b ∧ b ≤ ((msO ((k : Nat) : Int).toNat : Nat) : Int))
      · refine zV.eq (show (bI ((0 ≤ ((k : Nat) : Int) ∧ ((k : Nat) : Int) ≤ 4) ∧ (((lsO ((k : Nat) : Int).toNat : Nat) : Int) ≤ b ∧ b ≤ ((msO ((k : Nat) : Int).toNat : Nat) : Int))) : Int) = 1 from bI_t cm) ?_
        refine zV_jif_ne 36 dX4_set_2_31 rfl ⟨by decide, by decide⟩ (fun _ => ?_) (fun c_ => absurd c_ (by decide))
        have hS1 := hS.sc i0.go0.1
        have gMA : mdA h1 o L := hS1.2.2.1
        obtain ⟨gA, gA8, gAll, gAR⟩ := gMA
        refine zV_aload_n 0 dX4_set_2_36 rfl rfl (Or.inr ⟨_, rfl⟩) ?_
        refine zV_iconst (n := 1) dX4_set_2_37 ?_
        refine zV_iload_n 1 dX4_set_2_38 rfl rfl ?_
        refine zV_jadd dX4_set_2_39 ?_
        refine zV.eq (show (1 + ((k : Nat) : Int) : Int) = ((k + 1 : Nat) : Int) from by omega) ?_
        refine zV_iload_n 2 dX4_set_2_40 rfl rfl ?_
        refine zV_iconst (n := 4) dX4_set_2_41 ?_
        refine zc_V (y' := zX4_changes) (as := [.int (jI (((k + 1 : Nat) : Int))), .int (jI (b)), .int (jI (4))]) (rest := []) (ci := 3) (q := (RX4, TX4, 27)) bX4_changes dX4_set_2_42 q2513 q2515 qs131 (md_k hM1) rfl (c_X4_changes hM1 hP1 gA gA8 gAR (k + 1) 4 (by omega) (by decide) (by omega) b hb) rfl rfl (by decide) (Nat.le_of_ble_eq_true rfl) (by decide) (zk_I (fun z h2 ⟨ez, ⟨w2, n2, r2⟩, p2⟩ _ => ?_))
        subst ez
        have hok : pOk (pSet (acc P 4 1) (k + 1) b) := ⟨pWf_set (pWf_acc hw (by decide)) (by omega) c2, tl_pSet (by omega) (pOk_acc hS.2.1.2 (by decide)).2⟩
        have hS2 : MdS h2 o (pSet (acc P 4 1) (k + 1) b, kps P L, K, I, E, U) := hS1.upd (w2.mono (by simp) (by simp)) ⟨p2, hok⟩ ⟨n2, kps_le gA8, kps_ok gAll hS.2.1.2, r2⟩
        have t2 : gI h2 o 0 = 0 := (w2.2 0 (by simp)).trans (i0.2.trans (ma2_iff.mpr ⟨cm, trivial⟩))
        exact zV_ireturn dX4_set_2_45 rfl rfl ⟨_, rfl, t2.trans (ma2_iff.mpr ⟨cm, trivial⟩).symm, fun _ => ⟨rfl, hS2⟩, fun e => absurd (ma2_iff.mpr ⟨cm, trivial⟩) e⟩
      · exact absurd ⟨c1, c2⟩ cm
    · refine zV.eq (show (bI (((lsO k : Nat) : Int) ≤ b ∧ b ≤ ((msO k : Nat) : Int)) : Int) = 0 from bI_f c2) ?_
      refine zV_jif_eq 27 dX4_set_2_20 rfl ⟨by decide, by decide⟩ (fun _ => ?_) (fun c_ => absurd c_ (by decide))
      refine zV_iconst (n := 0) dX4_set_2_27 ?_
      refine zV.eq (show (0 : Int) = bI ((0 ≤ ((k : Nat) : Int) ∧ ((k : Nat) : Int) ≤ 4) ∧ (((lsO ((k : Nat) : Int).toNat : Nat) : Int) ≤ b ∧ b ≤ ((msO ((k : Nat) : Int).toNat : Nat) : Int))) from (bI_f (fun z => c2 z.2)).symm) ?_
      refine zc_V (y' := zX4_mayOne) (as := [.int (jI (bI ((0 ≤ ((k : Nat) : Int) ∧ ((k : Nat) : Int) ≤ 4) ∧ (((lsO ((k : Nat) : Int).toNat : Nat) : Int) ≤ b ∧ b ≤ ((msO ((k : Nat) : Int).toNat : Nat) : Int)))))]) (rest := []) (ci := 3) (q := (RX4, TX4, 27)) bX4_mayOne dX4_set_2_28 q2141 q2143 qs69 (md_k hM) rfl (c_X4_mayOne hM ((0 ≤ ((k : Nat) : Int) ∧ ((k : Nat) : Int) ≤ 4) ∧ (((lsO ((k : Nat) : Int).toNat : Nat) : Int) ≤ b ∧ b ≤ ((msO ((k : Nat) : Int).toNat : Nat) : Int)))) rfl rfl (by decide) (Nat.le_of_ble_eq_true rfl) (by decide) (zk_I (fun z h1 ⟨ez, i0⟩ _ => ?_))
      subst ez
      have hM1 : MdL h1 o := hM.ch i0.1
      have hP1 : gI h1 (o + 1) = P := (i0.1.row (by simp)).trans hP
      by_cases cm : (0 ≤ ((k : Nat) : Int) ∧ ((k : Nat) : Int) ≤ 4) ∧ (((lsO ((k : Nat) : Int).toNat : Nat) : Int) ≤ b ∧ b ≤ ((msO ((k : Nat) : Int).toNat : Nat) : Int))
      · exact absurd cm.2 c2
      · refine zV.eq (show (bI ((0 ≤ ((k : Nat) : Int) ∧ ((k : Nat) : Int) ≤ 4) ∧ (((lsO ((k : Nat) : Int).toNat : Nat) : Int) ≤ b ∧ b ≤ ((msO ((k : Nat) : Int).toNat : Nat) : Int))) : Int) = 0 from bI_f cm) ?_
        refine zV_jif_ne 36 dX4_set_2_31 rfl ⟨by decide, by decide⟩ (fun c_ => absurd c_ (by decide)) (fun _ => ?_)
        refine zV_iconst (n := 0) dX4_set_2_34 ?_
        exact zV_ireturn dX4_set_2_35 rfl rfl ⟨_, rfl, i0.2, fun e => absurd e (ma1_ne cm), fun _ => hS.sc i0.go0.1⟩
  · refine zV.eq (show (bI (0 ≤ a ∧ a ≤ 4) : Int) = 0 from bI_f c1) ?_
    refine zV_jif_eq 27 dX4_set_2_5 rfl ⟨by decide, by decide⟩ (fun _ => ?_) (fun c_ => absurd c_ (by decide))
    refine zV_iconst (n := 0) dX4_set_2_27 ?_
    refine zV.eq (show (0 : Int) = bI ((0 ≤ a ∧ a ≤ 4) ∧ (((lsO a.toNat : Nat) : Int) ≤ b ∧ b ≤ ((msO a.toNat : Nat) : Int))) from (bI_f (fun z => c1 z.1)).symm) ?_
    refine zc_V (y' := zX4_mayOne) (as := [.int (jI (bI ((0 ≤ a ∧ a ≤ 4) ∧ (((lsO a.toNat : Nat) : Int) ≤ b ∧ b ≤ ((msO a.toNat : Nat) : Int)))))]) (rest := []) (ci := 3) (q := (RX4, TX4, 27)) bX4_mayOne dX4_set_2_28 q2141 q2143 qs69 (md_k hM) rfl (c_X4_mayOne hM ((0 ≤ a ∧ a ≤ 4) ∧ (((lsO a.toNat : Nat) : Int) ≤ b ∧ b ≤ ((msO a.toNat : Nat) : Int)))) rfl rfl (by decide) (Nat.le_of_ble_eq_true rfl) (by decide) (zk_I (fun z h1 ⟨ez, i0⟩ _ => ?_))
    subst ez
    have hM1 : MdL h1 o := hM.ch i0.1
    have hP1 : gI h1 (o + 1) = P := (i0.1.row (by simp)).trans hP
    by_cases cm : (0 ≤ a ∧ a ≤ 4) ∧ (((lsO a.toNat : Nat) : Int) ≤ b ∧ b ≤ ((msO a.toNat : Nat) : Int))
    · exact absurd cm.1 c1
    · refine zV.eq (show (bI ((0 ≤ a ∧ a ≤ 4) ∧ (((lsO a.toNat : Nat) : Int) ≤ b ∧ b ≤ ((msO a.toNat : Nat) : Int))) : Int) = 0 from bI_f cm) ?_
      refine zV_jif_ne 36 dX4_set_2_31 rfl ⟨by decide, by decide⟩ (fun c_ => absurd c_ (by decide)) (fun _ => ?_)
      refine zV_iconst (n := 0) dX4_set_2_34 ?_
      exact zV_ireturn dX4_set_2_35 rfl rfl ⟨_, rfl, i0.2, fun e => absurd e (ma1_ne cm), fun _ => hS.sc i0.go0.1⟩
end M16
