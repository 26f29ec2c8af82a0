/-! ===== MM: locals, constants, stack, arithmetic, branches, ends ===== -/
set_option maxRecDepth 100000
def zget (lv : List (Nat × Value)) (i : Nat) : Option Value := match lv with
  | [] => none
  | q :: l => if q.1 = i then some q.2 else zget l i
theorem zget_mem {lv : List (Nat × Value)} {i : Nat} {v : Value} (h : zget lv i = some v) : (i, v) ∈ lv := by
  induction lv with
  | nil => cases h
  | cons q l ih =>
    unfold zget at h
    split at h
    · rename_i e
      cases h
      rw [← e]
      exact List.mem_cons_self
    · exact List.mem_cons_of_mem _ (ih h)
/-- a local is set, at its place in the list; of a long the second half's is lost -/
def zset1 : List (Nat × Value) → Nat → Value → List (Nat × Value)
  | [], i, v => [(i, v)]
  | q :: l, i, v => if q.1 = i then (i, v) :: l else q :: zset1 l i v
def zhit (i : Nat) (v : Value) (q : Nat × Value) : Bool := (q.1 + 1 == i && q.2.category == 2) || (q.1 == i + 1 && v.category == 2)
def zset (lv : List (Nat × Value)) (i : Nat) (v : Value) : List (Nat × Value) := zset1 (lv.filter (fun q => !zhit i v q)) i v
def zkeys : List (Nat × Value) → Bool
  | [] => true
  | q :: l => !(l.any fun r => r.1 == q.1) && zkeys l
theorem zset1_mem {lv : List (Nat × Value)} {i : Nat} {v : Value} (hk : zkeys lv = true) : ∀ q ∈ zset1 lv i v, q = (i, v) ∨ (q ∈ lv ∧ q.1 ≠ i) := by
  induction lv with
  | nil => intro q hq; exact Or.inl (List.mem_singleton.mp hq)
  | cons r l ih =>
    intro q hq
    unfold zset1 at hq
    simp only [zkeys, Bool.and_eq_true, Bool.not_eq_true', List.any_eq_false, beq_iff_eq] at hk
    split at hq
    · rename_i e
      rcases List.mem_cons.mp hq with h | h
      · exact Or.inl h
      · exact Or.inr ⟨List.mem_cons_of_mem _ h, fun z => hk.1 q h (z.trans e.symm)⟩
    · rename_i e
      rcases List.mem_cons.mp hq with h | h
      · exact Or.inr ⟨by rw [h]; exact List.mem_cons_self, by rw [h]; exact e⟩
      · rcases ih hk.2 q h with h | h
        · exact Or.inl h
        · exact Or.inr ⟨List.mem_cons_of_mem _ h.1, h.2⟩
theorem zkeys_filter {lv : List (Nat × Value)} {p : Nat × Value → Bool} (hk : zkeys lv = true) : zkeys (lv.filter p) = true := by
  induction lv with
  | nil => rfl
  | cons r l ih =>
    simp only [zkeys, Bool.and_eq_true, Bool.not_eq_true', List.any_eq_false, beq_iff_eq] at hk
    rw [List.filter_cons]
    split
    · simp only [zkeys, Bool.and_eq_true, Bool.not_eq_true', List.any_eq_false, beq_iff_eq]
      exact ⟨fun q hq => hk.1 q (List.mem_filter.mp hq).1, ih hk.2⟩
    · exact ih hk.2
theorem zset_has {ρ : Nat → Nat} {lv : List (Nat × Value)} {i nL : Nat} {v : Value} {ls' : Array Slot} (hk : zkeys lv = true) (h1 : v.category = 1 → lv_has ls' nL ((i, ze ρ v) :: (lv.map (zel ρ)).filter (fun q => !(q.1 == i) && !(q.1 + 1 == i && q.2.category == 2))))
    (h2 : v.category = 2 → lv_has ls' nL ((i, ze ρ v) :: (lv.map (zel ρ)).filter (fun q => !(q.1 == i) && (!(q.1 == i + 1) && !(q.1 + 1 == i && q.2.category == 2))))) : lv_has ls' nL ((zset lv i v).map (zel ρ)) := by
  have key : ∀ q ∈ (zset lv i v).map (zel ρ), q = (i, ze ρ v) ∨ (q ∈ lv.map (zel ρ) ∧ q.1 ≠ i ∧ ¬ (q.1 + 1 = i ∧ q.2.category = 2) ∧ ¬ (q.1 = i + 1 ∧ v.category = 2)) := by
    intro q hq
    obtain ⟨q0, hq0, rfl⟩ := List.mem_map.mp hq
    rcases zset1_mem (zkeys_filter hk) q0 hq0 with e | ⟨e1, e2⟩
    · rw [e]; exact Or.inl rfl
    · obtain ⟨e3, e4⟩ := List.mem_filter.mp e1
      simp only [zhit, Bool.not_eq_true', Bool.or_eq_false_iff, Bool.and_eq_false_iff, beq_eq_false_iff_ne, ne_eq] at e4
      refine Or.inr ⟨List.mem_map.mpr ⟨q0, e3, rfl⟩, e2, ?_, ?_⟩
      · rintro ⟨a, b⟩
        have b' : q0.2.category = 2 := by rw [← ze_cat ρ]; exact b
        rcases e4.1 with z | z
        · exact z a
        · exact z b'
      · rintro ⟨a, b⟩
        rcases e4.2 with z | z
        · exact z a
        · exact z b
  rcases lv_cat v with hc | hc
  · obtain ⟨a, b, c⟩ := h1 hc
    refine ⟨a, b, fun q hq => ?_⟩
    rcases key q hq with e | ⟨e1, e2, e3, -⟩
    · rw [e]; exact c _ List.mem_cons_self
    · refine c q (List.mem_cons_of_mem _ (List.mem_filter.mpr ⟨e1, ?_⟩))
      simp only [Bool.and_eq_true, Bool.not_eq_true', beq_eq_false_iff_ne, ne_eq, Bool.and_eq_false_iff]
      refine ⟨e2, ?_⟩
      by_cases z : q.1 + 1 = i
      · exact Or.inr fun w => e3 ⟨z, w⟩
      · exact Or.inl z
  · obtain ⟨a, b, c⟩ := h2 hc
    refine ⟨a, b, fun q hq => ?_⟩
    rcases key q hq with e | ⟨e1, e2, e3, e4⟩
    · rw [e]; exact c _ List.mem_cons_self
    · refine c q (List.mem_cons_of_mem _ (List.mem_filter.mpr ⟨e1, ?_⟩))
      simp only [Bool.and_eq_true, Bool.not_eq_true', beq_eq_false_iff_ne, ne_eq, Bool.and_eq_false_iff]
      refine ⟨e2, fun z => e4 ⟨z, hc⟩, ?_⟩
      by_cases z : q.1 + 1 = i
      · exact Or.inr fun w => e3 ⟨z, w⟩
      · exact Or.inl z
theorem zget_slot {ρ : Nat → Nat} {lv : List (Nat × Value)} {i nL : Nat} {v : Value} {ls : Array Slot} (hl : lv_has ls nL (lv.map (zel ρ))) (h : zget lv i = some v) : ls[i]? = some (.val (ze ρ v)) := hl.2.2 (i, ze ρ v) (List.mem_map.mpr ⟨(i, v), zget_mem h, rfl⟩)
theorem zset_wf {lv : List (Nat × Value)} {i n : Nat} {v : Value} (hk : zkeys lv = true) (h : ∀ q ∈ lv, zw n q.2) (hv : zw n v) : ∀ q ∈ zset lv i v, zw n q.2 := by
  intro q hq
  rcases zset1_mem (zkeys_filter hk) q hq with e | ⟨e, -⟩
  · rw [e]; exact hv
  · exact h q (List.mem_filter.mp e).1
