/-! ===== MM, base: virtual heaps under writes; frames; entry and exit ===== -/
set_option maxRecDepth 100000
theorem zu2_eq {α : Type} (f : Nat → Nat → α) (a k : Nat) (x : α) : zu2 f a k x a k = x := by simp [zu2]
theorem zu2_ne {α : Type} (f : Nat → Nat → α) {a k b j : Nat} (x : α) (h : ¬ (b = a ∧ j = k)) : zu2 f a k x b j = f b j := by simp [zu2, h]
theorem zLe.rf {h : zH} : zLe h h := ⟨Nat.le_refl _, Nat.le_refl _, Nat.le_refl _, fun _ _ => ⟨rfl, rfl⟩, fun _ _ _ => ⟨rfl, rfl, rfl, rfl⟩⟩
theorem zLe.tr {h h1 h2 : zH} (a : zLe h h1) (b : zLe h1 h2) : zLe h h2 :=
  ⟨Nat.le_trans a.1 b.1, Nat.le_trans a.2.1 b.2.1, Nat.le_trans a.2.2.1 b.2.2.1, fun q hq => ⟨((b.2.2.2.1 q (Nat.lt_of_lt_of_le hq a.1)).1).trans (a.2.2.2.1 q hq).1, ((b.2.2.2.1 q (Nat.lt_of_lt_of_le hq a.1)).2).trans (a.2.2.2.1 q hq).2⟩,
    fun q hq j => ⟨(b.2.2.2.2 q hq j).1.trans (a.2.2.2.2 q hq j).1, (b.2.2.2.2 q hq j).2.1.trans (a.2.2.2.2 q hq j).2.1, (b.2.2.2.2 q hq j).2.2.1.trans (a.2.2.2.2 q hq j).2.2.1, (b.2.2.2.2 q hq j).2.2.2.trans (a.2.2.2.2 q hq j).2.2.2⟩⟩
theorem zLe_sI {h : zH} {a k : Nat} {x : Int32} (ha : 64 ≤ a) : zLe h (sI h a k x) :=
  ⟨Nat.le_refl _, Nat.le_refl _, Nat.le_refl _, fun _ _ => ⟨rfl, rfl⟩, fun q hq j => ⟨zu2_ne _ _ (fun e => by omega), rfl, rfl, rfl⟩⟩
theorem zLe_sR {h : zH} {a k : Nat} {x : Option Nat} (ha : 64 ≤ a) : zLe h (sR h a k x) :=
  ⟨Nat.le_refl _, Nat.le_refl _, Nat.le_refl _, fun _ _ => ⟨rfl, rfl⟩, fun q hq j => ⟨rfl, zu2_ne _ _ (fun e => by omega), rfl, rfl⟩⟩
theorem zLe_sL {h : zH} {a k : Nat} {x : Int64} (ha : 64 ≤ a) : zLe h (sL h a k x) :=
  ⟨Nat.le_refl _, Nat.le_refl _, Nat.le_refl _, fun _ _ => ⟨rfl, rfl⟩, fun q hq j => ⟨rfl, rfl, zu2_ne _ _ (fun e => by omega), rfl⟩⟩
theorem zLe_sD {h : zH} {a k : Nat} {x : UInt64} (ha : 64 ≤ a) : zLe h (sD h a k x) :=
  ⟨Nat.le_refl _, Nat.le_refl _, Nat.le_refl _, fun _ _ => ⟨rfl, rfl⟩, fun q hq j => ⟨rfl, rfl, rfl, zu2_ne _ _ (fun e => by omega)⟩⟩
theorem zLe_sN {h : zH} {k n sl : Nat} (h0 : 64 ≤ zN h) : zLe h (sN h k n sl) := by
  refine ⟨Nat.le_succ _, Nat.le_succ _, Nat.le_add_right _ _, fun a ha => ⟨?_, ?_⟩, fun a ha j => ⟨?_, ?_, ?_, ?_⟩⟩
  · show (if a = zN h then k else zK h a) = _
    rw [if_neg (by omega)]
  · show (if a = zN h then n else zZ h a) = _
    rw [if_neg (by omega)]
  · show (if a = zN h then 0 else zI h a j) = _
    rw [if_neg (by omega)]
  · show (if a = zN h then none else zR h a j) = _
    rw [if_neg (by omega)]
  · show (if a = zN h then 0 else zL h a j) = _
    rw [if_neg (by omega)]
  · show (if a = zN h then 0 else zD h a j) = _
    rw [if_neg (by omega)]
/-- two virtual heaps are alike at a -/
def zEq (h h' : zH) (a : Nat) : Prop := zK h' a = zK h a ∧ zZ h' a = zZ h a ∧ ∀ j, zI h' a j = zI h a j ∧ zR h' a j = zR h a j ∧ zL h' a j = zL h a j ∧ zD h' a j = zD h a j
theorem zV0_eq {h h' : zH} {a : Nat} (e : zEq h h' a) (k : Nat) (ty : FieldType) : zV0 h' a k ty = zV0 h a k ty := by
  obtain ⟨-, -, e⟩ := e
  obtain ⟨e1, e2, e3, e4⟩ := e k
  cases ty <;> simp only [zV0, e1, e2, e3, e4]
theorem ze_agree {ρ ρ' : Nat → Nat} {n : Nat} (hr : ∀ a, a < n → ρ' a = ρ a) {v : Value} (hv : zw n v) : ze ρ' v = ze ρ v := by
  cases v with
  | ref a => simp only [ze]; rw [hr a (hv a rfl)]
  | _ => rfl
theorem zw_int {n : Nat} {x : Int32} : zw n (.int x) := fun _ h => by cases h
theorem zw_long {n : Nat} {x : Int64} : zw n (.long x) := fun _ h => by cases h
theorem zw_float {n : Nat} {x : UInt32} : zw n (.float x) := fun _ h => by cases h
theorem zw_double {n : Nat} {x : UInt64} : zw n (.double x) := fun _ h => by cases h
theorem zw_null {n : Nat} : zw n .null := fun _ h => by cases h
theorem zw_ref {n a : Nat} (h : a < n) : zw n (.ref a) := fun b e => by cases e; exact h
theorem zw_rf {n : Nat} {x : Option Nat} (h : ∀ a, x = some a → a < n) : zw n (va_rf x) := by
  cases x with
  | none => exact zw_null
  | some a => exact zw_ref (h a rfl)
theorem zw_mono {n n' : Nat} {v : Value} (h : zw n v) (hn : n ≤ n') : zw n' v := fun a e => Nat.lt_of_lt_of_le (h a e) hn
theorem zw_V0 {h : zH} {a k : Nat} {ty : FieldType} {n : Nat} (hr : ∀ x, zR h a k = some x → x < n) : zw n (zV0 h a k ty) := by
  cases ty <;> first | exact zw_int | exact zw_long | exact zw_double | exact zw_float | exact zw_rf hr
theorem ze_cat (ρ : Nat → Nat) (v : Value) : (ze ρ v).category = v.category := by cases v <;> rfl
theorem zAt_move {G : zG} {ρ ρ' : Nat → Nat} {h h' : zH} {a : Nat} {H H1 : Heap} (e : zEq h h' a) (hr : ρ' a = ρ a) (hv : ∀ j x, zR h a j = some x → ρ' x = ρ x) (hH : H1[ρ a]? = H[ρ a]?) (z : zAt G ρ h a H) : zAt G ρ' h' a H1 := by
  have hz : ∀ k ty, ze ρ' (zV0 h' a k ty) = ze ρ (zV0 h a k ty) := by
    intro k ty
    rw [zV0_eq e]
    have : ∀ x : Option Nat, zR h a k = x → ze ρ' (va_rf x) = ze ρ (va_rf x) := by
      intro x hx
      cases x with
      | none => rfl
      | some b => simp only [va_rf, ze]; rw [hv k b hx]
    cases ty <;> first | rfl | exact this _ rfl
  obtain ⟨z1, z2, z3⟩ := z
  unfold zAt
  rw [e.1, e.2.1, hr]
  refine ⟨fun hk => ?_, fun h1 h2 => ?_, fun h1 h2 => ?_⟩
  · obtain ⟨r, q1, cell, q2, q3, q4, q5⟩ := z1 hk
    exact ⟨r, q1, cell, by rw [hH]; exact q2, q3, q4, fun k hk => (q5 k hk).trans (congrArg some (hz _ _).symm)⟩
  · rw [hH, z2 h1 h2]
    congr 2
    funext j
    exact (hz j _).symm
  · obtain ⟨cell, q2, q3, q4, q5⟩ := z3 h1 h2
    exact ⟨cell, by rw [hH]; exact q2, q3, q4, fun ty ht => by rw [hz]; exact q5 ty ht⟩
/-- a write into the cell a -/
theorem zS_put {G : zG} {ρ : Nat → Nat} {h h' : zH} {H H1 : Heap} {a : Nat} (hS : zS G ρ h H) (ha : 64 ≤ a) (haN : a < zN h) (hz : H1.size = H.size) (ho : ∀ q : Nat, q ≠ ρ a → H1[q]? = H[q]?)
    (hn : zN h' = zN h) (hsame : ∀ b, b ≠ a → zEq h h' b) (hcl : ∀ j x, zR h' a j = some x → x < zN h) (hat : zAt G ρ h' a H1) : zS G ρ h' H1 := by
  obtain ⟨s1, s2, s3, s4, s5, s6⟩ := hS
  refine ⟨by rw [hn]; exact s1, s2, fun b hb => ?_, fun b h1 h2 => s4 b h1 (by rw [← hn]; exact h2), fun b hb j x hx => ?_, fun b c h1 h2 h3 h4 => s6 b c h1 (by rw [← hn]; exact h2) h3 (by rw [← hn]; exact h4)⟩
  · rw [hn] at hb
    refine ⟨?_, by rw [hz]; exact (s3 b hb).2⟩
    by_cases hba : b = a
    · rw [hba]; exact hat
    · have hne : ρ b ≠ ρ a := by
        by_cases hb6 : 64 ≤ b
        · exact fun e => hba (s6 b a hb6 hb ha haN e)
        · have h1 := (s2 b (by omega)).2
          have h2 : gS G ≤ ρ a := s4 a ha haN
          omega
      exact zAt_move (hsame b hba) rfl (fun _ _ _ => rfl) (ho _ hne) (s3 b hb).1
  · rw [hn] at hb ⊢
    by_cases hba : b = a
    · rw [hba] at hx
      exact hcl j x hx
    · rw [((hsame b hba).2.2 j).2.1] at hx
      exact s5 b hb j x hx
/-- a new cell -/
theorem zS_new {G : zG} {ρ ρ' : Nat → Nat} {h : zH} {k n sl : Nat} {H H1 : Heap} (hS : zS G ρ h H) (hg : gS G ≤ H.size) (hr : ∀ a, a < zN h → ρ' a = ρ a) (hq : ρ' (zN h) = H.size) (hz : H1.size = H.size + 1) (ho : ∀ q : Nat, q < H.size → H1[q]? = H[q]?)
    (hat : zAt G ρ' (sN h k n sl) (zN h) H1) : zS G ρ' (sN h k n sl) H1 := by
  obtain ⟨s1, s2, s3, s4, s5, s6⟩ := hS
  have hN : zN (sN h k n sl) = zN h + 1 := rfl
  have he : ∀ b, b < zN h → zEq h (sN h k n sl) b := fun b hb => ⟨if_neg (by omega), if_neg (by omega), fun j => ⟨if_neg (by omega), if_neg (by omega), if_neg (by omega), if_neg (by omega)⟩⟩
  have hcl : ∀ b, b < zN h + 1 → ∀ j x, zR (sN h k n sl) b j = some x → x < zN h := by
    intro b hb j x hx
    by_cases hbN : b = zN h
    · have : zR (sN h k n sl) b j = none := if_pos hbN
      rw [this] at hx; cases hx
    · rw [((he b (by omega)).2.2 j).2.1] at hx
      exact s5 b (by omega) j x hx
  refine ⟨by rw [hN]; omega, fun b hb => by rw [hr b (by omega)]; exact s2 b hb, fun b hb => ?_, fun b h1 h2 => ?_, fun b hb j x hx => Nat.lt_succ_of_lt (hcl b hb j x hx), fun b c h1 h2 h3 h4 e => ?_⟩
  · rw [hN] at hb
    by_cases hbN : b = zN h
    · rw [hbN]
      exact ⟨hat, by rw [hq, hz]; omega⟩
    · have hb' : b < zN h := by omega
      have hl := (s3 b hb').2
      exact ⟨zAt_move (he b hb') (hr b hb') (fun j x hx => hr x (s5 b hb' j x hx)) (ho _ hl) (s3 b hb').1, by rw [hr b hb', hz]; omega⟩
  · rw [hN] at h2
    by_cases hbN : b = zN h
    · rw [hbN, hq]; exact hg
    · rw [hr b (by omega)]; exact s4 b h1 (by omega)
  · rw [hN] at h2 h4
    by_cases hbN : b = zN h
    · by_cases hcN : c = zN h
      · rw [hbN, hcN]
      · rw [hbN, hq, hr c (by omega)] at e
        have := (s3 c (by omega)).2
        omega
    · by_cases hcN : c = zN h
      · rw [hcN, hq, hr b (by omega)] at e
        have := (s3 b (by omega)).2
        omega
      · rw [hr b (by omega), hr c (by omega)] at e
        exact s6 b c h1 (by omega) h3 (by omega) e
/-! frames -/
theorem zW_mono {p : Program} {l : Launch} {e : Env} {R : Room} {s : State} {m : MethodId} {args : Array Value} {below : List Frame} {meth : Method} {c : Code} {H : Heap} {locs : List Loc} {cells slots : Nat} {Q Q' : State → Prop} {g : JFrame} (h : ∀ t, Q t → Q' t) (k : W p l e R s m args below meth c H locs cells slots Q g) : W p l e R s m args below meth c H locs cells slots Q' g := by
  intro T hT X
  obtain ⟨t, a, b⟩ := k T hT X
  exact ⟨t, a, h t b⟩
theorem zXW_mono {p : Program} {l : Launch} {e : Env} {R : Room} {s : State} {m : MethodId} {args : Array Value} {below : List Frame} {meth : Method} {c : Code} {H : Heap} {locs : List Loc} {cells slots : Nat} {Q Q' : State → Prop} {g : JFrame} {q : Addr} (h : ∀ t, Q t → Q' t) (k : vx_W p l e R s m args below meth c H locs cells slots Q g q) : vx_W p l e R s m args below meth c H locs cells slots Q' g q := by
  intro T hT X
  obtain ⟨t, a, b⟩ := k T hT X
  exact ⟨t, a, h t b⟩
theorem zEnd_mono {G : zG} {r : zO} {h' : zH} {ρ ρ1 : Nat → Nat} {n n1 : Nat} {below : List Frame} {s : State} {mc ms : Nat} (hn : n ≤ n1) (hr : ∀ a, a < n → ρ1 a = ρ a) : ∀ t, zEnd G r h' ρ1 n1 below s mc ms t → zEnd G r h' ρ n below s mc ms t := by
  rintro t ⟨o, h1, h2, ρ', h3, h4⟩
  exact ⟨o, h1, h2, ρ', fun a ha => (h3 a (Nat.lt_of_lt_of_le ha hn)).trans (hr a ha), h4⟩
theorem zV.mono {G : zG} {y : zY} {d pc : Nat} {lv : List (Nat × Value)} {st : List Value} {h : zH} {Q Q' : zO → zH → Prop} (k : zV G y d pc lv st h Q) (hq : ∀ r h', zLe h h' → Q r h' → Q' r h') : zV G y d pc lv st h Q' := by
  obtain ⟨r, h', a, b, c⟩ := k
  exact ⟨r, h', hq r h' b a, b, c⟩
theorem zM.mono {G : zG} {y : zY} {d : Nat} {as : List Value} {h : zH} {Q Q' : zO → zH → Prop} (k : zM G y d as h Q) (hq : ∀ r h', zLe h h' → Q r h' → Q' r h') : zM G y d as h Q' := by
  obtain ⟨r, h', a, b, c⟩ := k
  exact ⟨r, h', hq r h' b a, b, c⟩
/-- an instruction that moves values about -/
theorem zV.pure {G : zG} {y : zY} {d pc pc' : Nat} {lv lv' : List (Nat × Value)} {st st' : List Value} {h : zH} {Q : zO → zH → Prop}
    (hw : (∀ v ∈ st, zw (zN h) v) → (∀ q ∈ lv, zw (zN h) q.2) → (∀ v ∈ st', zw (zN h) v) ∧ (∀ q ∈ lv', zw (zN h) q.2))
    (H0 : ∀ {p : Program} {e : Env} {R : Room} {s : State} {m : MethodId} {args : Array Value} {below : List Frame} {meth : Method} {c : Code} {H : Heap} {locs : List Loc} {cells slots : Nat} {P : State → Prop} {ρ : Nat → Nat} {ls : Array Slot}, zX G y d p e R s m args below meth c → lv_has ls (yL y) (lv.map (zel ρ)) →
      (∀ ls' : Array Slot, lv_has ls' (yL y) (lv'.map (zel ρ)) → W p (gL G) e R s m args below meth c H locs cells slots P (F0 m pc' ls' (st'.map (ze ρ)))) → W p (gL G) e R s m args below meth c H locs cells slots P (F0 m pc ls (st.map (ze ρ))))
    (k : zV G y d pc' lv' st' h Q) : zV G y d pc lv st h Q := by
  obtain ⟨r, h', a, b, k⟩ := k
  refine ⟨r, h', a, b, fun p e R s m args below meth c ρ H locs cells slots mc ms ls hX hS hF hl w1 w2 i1 i2 i3 i4 => ?_⟩
  obtain ⟨w1', w2'⟩ := hw w1 w2
  exact H0 hX hl fun ls' hl' => k p e R s m args below meth c ρ H locs cells slots mc ms ls' hX hS hF hl' w1' w2' i1 i2 i3 i4
/-- the frame's locals, fewer or in another order -/
theorem zV.loc {G : zG} {y : zY} {d pc : Nat} {lv lv' : List (Nat × Value)} {st : List Value} {h : zH} {Q : zO → zH → Prop} (hs : ∀ q ∈ lv', q ∈ lv) (k : zV G y d pc lv' st h Q) : zV G y d pc lv st h Q := by
  refine zV.pure (fun a b => ⟨a, fun q hq => b q (hs q hq)⟩) (fun _ hl kk => kk _ ⟨hl.1, hl.2.1, fun q hq => ?_⟩) k
  obtain ⟨q0, h1, h2⟩ := List.mem_map.mp hq
  exact hl.2.2 q (List.mem_map.mpr ⟨q0, hs q0 h1, h2⟩)
