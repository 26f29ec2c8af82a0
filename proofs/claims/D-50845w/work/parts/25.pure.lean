/-! ===== PURE, 1: what the numbers of a setup say. P: the row of numbers (0 many, 1.. settings, 6.. prices, 37.. accounts, 43.. letters, 107.. pins) ===== -/
set_option maxRecDepth 100000
abbrev pRow : Type := Nat → Int
/-- q is an earlier place with the same two letters -/
abbrev isLk (P : pRow) (p q : Nat) : Prop := (p : Int) + 1 < P 0 ∧ P (q + 43) = P (p + 43) ∧ P (q + 1 + 43) = P (p + 1 + 43)
/-- how many such places lie from lo on ahead of hi -/
def lkN (P : pRow) (p lo : Nat) : Nat → Nat
  | 0 => 0
  | q + 1 => lkN P p lo q + (if lo ≤ q ∧ isLk P p q then 1 else 0)
theorem lkN_ge (P : pRow) (p lo : Nat) : ∀ hi, hi ≤ lo → lkN P p lo hi = 0
  | 0, _ => rfl
  | q + 1, h => by
    rw [lkN, lkN_ge P p lo q (by omega), if_neg (by omega)]
theorem lkN_lo (P : pRow) (p lo : Nat) : ∀ hi, lo < hi → lkN P p lo hi = lkN P p (lo + 1) hi + (if isLk P p lo then 1 else 0)
  | 0, h => absurd h (by omega)
  | q + 1, h => by
    rw [lkN, lkN]
    by_cases e : q = lo
    · subst e
      rw [lkN_ge P p q q (Nat.le_refl _), lkN_ge P p (q + 1) q (by omega), if_neg (show ¬ (q + 1 ≤ q ∧ _) by omega)]
      by_cases hk : isLk P p q
      · rw [if_pos ⟨Nat.le_refl _, hk⟩, if_pos hk]
      · rw [if_neg (fun z => hk z.2), if_neg hk]
    · rw [lkN_lo P p lo q (by omega)]
      have e1 : (if lo ≤ q ∧ isLk P p q then 1 else 0) = (if lo + 1 ≤ q ∧ isLk P p q then 1 else 0) := by
        by_cases hk : isLk P p q
        · rw [if_pos (show lo ≤ q ∧ isLk P p q from ⟨by omega, hk⟩), if_pos (show lo + 1 ≤ q ∧ isLk P p q from ⟨by omega, hk⟩)]
        · rw [if_neg (fun z : lo ≤ q ∧ isLk P p q => hk z.2), if_neg (fun z : lo + 1 ≤ q ∧ isLk P p q => hk z.2)]
      rw [e1]
      omega
theorem lkN_le (P : pRow) (p lo : Nat) : ∀ hi, lkN P p lo hi ≤ hi - lo
  | 0 => Nat.zero_le _
  | q + 1 => by
    have := lkN_le P p lo q
    rw [lkN]
    split <;> omega
/-- the first place of the window -/
def pE (P : pRow) (p : Nat) : Nat := p - (P 1).toNat
def chainN (P : pRow) (p : Nat) : Nat := lkN P p (pE P p) p
def candN (P : pRow) (p : Nat) : Int := min (P 2) (chainN P p)
/-- a candidate -/
abbrev isCd (P : pRow) (p q : Nat) : Prop := isLk P p q ∧ (lkN P p (q + 1) p : Int) < P 2
/-- what holds of a setup's numbers -/
def pWf (P : pRow) : Prop := 1 ≤ P 0 ∧ P 0 ≤ 64 ∧ 1 ≤ P 1 ∧ P 1 ≤ 32 ∧ 1 ≤ P 2 ∧ P 2 ≤ 16 ∧ 2 ≤ P 3 ∧ P 3 ≤ 4 ∧ 4 ≤ P 4 ∧ P 4 ≤ 12 ∧ 1 ≤ P 5 ∧ P 5 ≤ 8 ∧ (∀ k, k < 31 → 0 ≤ P (k + 6) ∧ P (k + 6) ≤ 40) ∧ (∀ j : Nat, (j : Int) < P 0 → 0 ≤ P (j + 43) ∧ P (j + 43) < 26) ∧ (∀ j : Nat, (j : Int) < P 0 → P (j + 107) = 0 ∨ P (j + 107) = 1)
theorem pE_eq {P : pRow} (h : 0 ≤ P 1) (p : Nat) : (pE P p : Int) = max 0 ((p : Int) - P 1) := by
  unfold pE
  omega
theorem pE_le (P : pRow) (p : Nat) : pE P p ≤ p := Nat.sub_le _ _
/-- how many places from p on are as those d ahead of them: from n on, at most f steps -/
def smF (P : pRow) (p d : Nat) : Nat → Nat → Nat
  | 0, n => n
  | f + 1, n => if ((p + n : Nat) : Int) < P 0 ∧ P (p + n + 43) = P (p + n - d + 43) then smF P p d f (n + 1) else n
def sm (P : pRow) (p d : Nat) : Nat := smF P p d 64 0
theorem smF_ge (P : pRow) (p d : Nat) : ∀ f n, n ≤ smF P p d f n
  | 0, n => Nat.le_refl n
  | f + 1, n => by
    rw [smF]
    split
    · exact Nat.le_trans (Nat.le_succ n) (smF_ge P p d f (n + 1))
    · exact Nat.le_refl n
theorem smF_end (P : pRow) (p d : Nat) : ∀ f n, ((p + n : Nat) : Int) ≤ P 0 → ((p + smF P p d f n : Nat) : Int) ≤ P 0
  | 0, n, h => h
  | f + 1, n, h => by
    rw [smF]
    split
    · rename_i c
      exact smF_end P p d f (n + 1) (by omega)
    · exact h
/-- the unpinned places from p + n on, at most m -/
def unF (P : pRow) (p m : Nat) : Nat → Nat → Nat
  | 0, n => n
  | f + 1, n => if n < m ∧ ¬ P (p + n + 107) = 1 then unF P p m f (n + 1) else n
def un (P : pRow) (p m : Nat) : Nat := unF P p m 64 0
/-- the longest copy by a distance, candidate or not -/
def lgB (P : pRow) (p d : Nat) : Nat := if (un P p (min (P 4).toNat (sm P p d)) : Int) < P 3 then 0 else un P p (min (P 4).toNat (sm P p d))
/-- .. of a candidate within the window -/
def lg (P : pRow) (p d : Nat) : Nat := if (d : Int) ≤ P 1 ∧ d ≤ p ∧ isCd P p (p - d) then lgB P p d else 0
