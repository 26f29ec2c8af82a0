/-! ===== PURE, 2: chains by index, why a copy isn't one ===== -/
set_option maxRecDepth 100000
/-- the i-th link back from k, not ahead of lo; -1: none -/
def chA (P : pRow) (p lo : Nat) : Nat → Nat → Int
  | 0, _ => -1
  | k + 1, i => if k < lo then -1 else if isLk P p k then (if i = 0 then (k : Int) else chA P p lo k (i - 1)) else chA P p lo k i
def pinB (P : pRow) (p n : Nat) : Prop := ∃ j : Nat, j < n ∧ P (p + j + 107) = 1
theorem pinB_s {P : pRow} {p n : Nat} : pinB P p (n + 1) ↔ pinB P p n ∨ P (p + n + 107) = 1 := by
  constructor
  · rintro ⟨j, h1, h2⟩
    by_cases e : j = n
    · subst e; exact Or.inr h2
    · exact Or.inl ⟨j, by omega, h2⟩
  · rintro (⟨j, h1, h2⟩ | h)
    · exact ⟨j, by omega, h2⟩
    · exact ⟨n, by omega, h⟩
noncomputable def whyP (P : pRow) (p n d : Nat) : Int :=
  if ¬ (P 3 ≤ (n : Int) ∧ (n : Int) ≤ P 4) then 1 else if P 1 < (d : Int) then 2 else if p < d then 3 else if P 0 < ((p + n : Nat) : Int) then 4 else if sm P p d < n then 5 else
  if ¬ isCd P p (p - d) then 6 else @ite _ (pinB P p n) (Classical.propDecidable _) 7 0
theorem smF_s (P : pRow) (p d f n : Nat) : smF P p d (f + 1) n = if ((p + n : Nat) : Int) < P 0 ∧ P (p + n + 43) = P (p + n - d + 43) then smF P p d f (n + 1) else n := rfl
theorem unF_s (P : pRow) (p m f n : Nat) : unF P p m (f + 1) n = if n < m ∧ ¬ P (p + n + 107) = 1 then unF P p m f (n + 1) else n := rfl
theorem unF_ge (P : pRow) (p m : Nat) : ∀ f n, n ≤ unF P p m f n
  | 0, n => Nat.le_refl n
  | f + 1, n => by
    rw [unF]
    split
    · exact Nat.le_trans (Nat.le_succ n) (unF_ge P p m f (n + 1))
    · exact Nat.le_refl n
theorem unF_le (P : pRow) (p m : Nat) : ∀ f n, n ≤ m → unF P p m f n ≤ m
  | 0, n, h => h
  | f + 1, n, h => by
    rw [unF]
    split
    · rename_i c
      exact unF_le P p m f (n + 1) c.1
    · exact h
theorem un_le (P : pRow) (p m : Nat) : un P p m ≤ m := unF_le P p m 64 0 (Nat.zero_le _)
theorem sm_end {P : pRow} {p d : Nat} (h : (p : Int) ≤ P 0) : ((p + sm P p d : Nat) : Int) ≤ P 0 := smF_end P p d 64 0 (by simpa using h)
theorem lgB_le (P : pRow) (p d : Nat) : lgB P p d ≤ min (P 4).toNat (sm P p d) := by
  unfold lgB
  split
  · exact Nat.zero_le _
  · exact un_le _ _ _
theorem lg_le (P : pRow) (p d : Nat) : lg P p d ≤ min (P 4).toNat (sm P p d) := by
  unfold lg
  split
  · exact lgB_le P p d
  · exact Nat.zero_le _
theorem lg_end {P : pRow} {p d : Nat} (h : (p : Int) ≤ P 0) : ((p + lg P p d : Nat) : Int) ≤ P 0 := by
  have := lg_le P p d
  have := sm_end (d := d) h
  omega
/-- copies are laid: the model's table longest -/
def LC (P : pRow) (R : pRow) : Prop := ∀ p d : Nat, (p : Int) < P 0 → 1 ≤ d → d < 33 → R (33 * p + d) = (lg P p d : Int)
