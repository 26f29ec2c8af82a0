/-! ===== PURE, 4: prices up to a place; parses, by index of the step ===== -/
set_option maxRecDepth 100000
def beT (F : pRow) (j : Nat) (v : Int) : pRow := fun i => if i = j then min (F j) v else F i
def gOi (P : pRow) (p l d : Nat) (had : Int) (F : pRow) : pRow := fU (fun n F => beT F (66 * (p + n) + 2 * d) (had + cC P n d l)) (lg P p d + 1 - (P 3).toNat) (P 3).toNat F
def gOn (P : pRow) (p l r : Nat) (F : pRow) : pRow :=
  if F (66 * p + 2 * l + r) = 1000000 then F else
  fU (fun d X => gOi P p l d (F (66 * p + 2 * l + r)) X) 32 1 (beT F (66 * (p + 1) + 2 * l + 1) (F (66 * p + 2 * l + r) + lC P p r))
def fF0 : pRow := fun j => if j = 0 then 0 else 1000000
def gOl (P : pRow) (p : Nat) (F : pRow) : pRow := fU (fun l X => gOn P p l 1 (gOn P p l 0 X)) 33 0 F
/-- what lies ahead of each place -/
def fo (P : pRow) : pRow := fU (fun p X => gOl P p X) (P 0).toNat 0 fF0
def leF (P : pRow) (p : Nat) : Int := fU (fun l b => min b (min (fo P (66 * p + 2 * l)) (fo P (66 * p + 2 * l + 1)))) 33 0 1000000
/-- such numbers -/
def fB (F : pRow) : Prop := ∀ j, 0 ≤ F j ∧ F j ≤ 1000000
theorem beT_b {F : pRow} {j : Nat} {v : Int} (h : fB F) (hv : 0 ≤ v) : fB (beT F j v) := by
  intro i
  unfold beT
  split
  · have := h j
    constructor
    · exact Int.le_min.mpr ⟨this.1, hv⟩
    · exact Int.le_trans (Int.min_le_left _ _) this.2
  · exact h i
theorem gOi_b {P F : pRow} (hw : pWf P) {p l d : Nat} {had : Int} (hh : 0 ≤ had) (h : fB F) : fB (gOi P p l d had F) := by
  unfold gOi
  refine fU_ind (fun _ X => fB X) _ _ _ h (fun n X _ _ hX => beT_b hX ?_)
  have := (cC_b hw n d l).1
  omega
theorem gOn_b {P F : pRow} (hw : pWf P) {p l r : Nat} (hp : (p : Int) < P 0) (h : fB F) : fB (gOn P p l r F) := by
  unfold gOn
  split
  · exact h
  · have h1 := h (66 * p + 2 * l + r)
    have h2 := (lC_b hw hp r).1
    exact fU_ind (fun _ X => fB X) _ _ _ (beT_b h (by omega)) (fun d X _ _ hX => gOi_b hw h1.1 hX)
theorem gOl_b {P F : pRow} (hw : pWf P) {p : Nat} (hp : (p : Int) < P 0) (h : fB F) : fB (gOl P p F) :=
  fU_ind (fun _ X => fB X) _ _ _ h (fun _ _ _ _ hX => gOn_b hw hp (gOn_b hw hp hX))
theorem fF0_b : fB fF0 := by
  intro j
  unfold fF0
  split <;> constructor <;> decide
theorem fo_b {P : pRow} (hw : pWf P) : fB (fo P) :=
  fU_ind (fun _ X => fB X) _ _ _ fF0_b (fun p _ _ h2 hX => gOl_b hw (by have := hw.1; omega) hX)
/-! parses -/
abbrev wts (P : pRow) (p : Nat) : Prop := (p : Int) + 1 < P 0 ∧ (loN P p : Int) + P 5 ≤ (loN P (p + 1) : Int)
def bsD (P : pRow) (p l : Nat) (due : Int) (n : Nat) : Nat → Nat → Option Nat
  | 0, _ => none
  | f + 1, d => if n ≤ lg P p d ∧ cC P n d l + rt P (66 * (p + n) + 2 * d) = due then some d else bsD P p l due n f (d + 1)
def bsN (P : pRow) (p l : Nat) (due : Int) : Nat → Nat → Option (Nat × Nat)
  | 0, _ => none
  | f + 1, n => if (n : Int) < P 3 then none else match bsD P p l due n 32 1 with
    | some d => some (n, d)
    | none => bsN P p l due f (n - 1)
/-- what the first step of the cheapest one is: length, distance -/
def bst (P : pRow) (p l r : Nat) : Nat × Nat :=
  if lC P p r + rt P (66 * (p + 1) + 2 * l + 1) = rt P (66 * p + 2 * l + r) then (1, 0) else (bsN P p l (rt P (66 * p + 2 * l + r)) 13 (P 4).toNat).getD (0, 0)
def chs (P : pRow) (k p l r : Nat) : Nat × Nat :=
  if k = 0 then (1, 0) else if k = 3 then bst P p l r else if 0 < loN P p ∧ ¬ (k = 2 ∧ wts P p) then (loN P p, neN P p) else (1, 0)
theorem lyDn_up {P : pRow} : ∀ (k : Nat) (R : pRow) (j : Nat), 66 * k ≤ j → lyDn P k R j = R j
  | 0, _, _, _ => rfl
  | k + 1, R, j, h => by
    rw [lyDn, lyDn_up k _ j (by omega), lyTo_up (by omega) h]
theorem lyDn_eq {P : pRow} (hw : pWf P) {p l r : Nat} (hl : l < 33) (hr : r < 2) : ∀ (k : Nat) (R : pRow), p < k → (k : Int) ≤ P 0 → lyDn P k R (66 * p + 2 * l + r) = lyV P (lyDn P k R) p l r
  | 0, _, h, _ => absurd h (by omega)
  | k + 1, R, h, hk => by
    rw [lyDn]
    by_cases e : p = k
    · subst e
      rw [lyDn_up p _ _ (by omega)]
      have h1 : lyTo P R p 33 (66 * p + 2 * l + r) = lyV P R p l r := by
        unfold lyTo
        rw [if_pos (by omega), show (66 * p + 2 * l + r - 66 * p) / 2 = l by omega, show (66 * p + 2 * l + r - 66 * p) % 2 = r by omega]
      rw [h1]
      refine lyV_congr hl hw (by omega) (fun j h2 h3 => ?_)
      rw [lyDn_up p _ _ (by omega), lyTo_up (by omega) h2]
    · exact lyDn_eq hw hl hr k _ (by omega) (by omega)
theorem rt_eq {P : pRow} (hw : pWf P) {p l r : Nat} (hp : (p : Int) < P 0) (hl : l < 33) (hr : r < 2) : rt P (66 * p + 2 * l + r) = lyV P (rt P) p l r :=
  lyDn_eq hw hl hr _ _ (by omega) (by have := hw.1; omega)
theorem rt_rB {P : pRow} (hw : pWf P) : rB P 0 (rt P) := lyR_rB hw
theorem ccp_ex (P R : pRow) (p l : Nat) : ccp P R p l = 1000000 ∨ ∃ d n, 1 ≤ d ∧ d < 33 ∧ (P 3).toNat ≤ n ∧ n ≤ lg P p d ∧ ccp P R p l = cC P n d l + R (66 * (p + n) + 2 * d) := by
  unfold ccp
  refine fU_ind (fun _ (x : Int) => x = 1000000 ∨ ∃ d n, 1 ≤ d ∧ d < 33 ∧ (P 3).toNat ≤ n ∧ n ≤ lg P p d ∧ x = cC P n d l + R (66 * (p + n) + 2 * d)) _ _ _ (Or.inl rfl) (fun d b h1 h2 hb => ?_)
  unfold cpIn
  refine fU_ind (fun _ (x : Int) => x = 1000000 ∨ ∃ d n, 1 ≤ d ∧ d < 33 ∧ (P 3).toNat ≤ n ∧ n ≤ lg P p d ∧ x = cC P n d l + R (66 * (p + n) + 2 * d)) _ _ _ hb (fun n x h3 h4 hx => ?_)
  rcases Int.le_total x (cC P n d l + R (66 * (p + n) + 2 * d)) with h | h
  · rw [Int.min_eq_left h]; exact hx
  · rw [Int.min_eq_right h]; exact Or.inr ⟨d, n, h1, by omega, h3, by omega, rfl⟩
theorem bsD_some {P : pRow} {p l : Nat} {due : Int} {n : Nat} : ∀ {f d e : Nat}, bsD P p l due n f d = some e → d ≤ e ∧ e < d + f ∧ n ≤ lg P p e ∧ cC P n e l + rt P (66 * (p + n) + 2 * e) = due
  | 0, _, _, h => by simp [bsD] at h
  | f + 1, d, e, h => by
    rw [bsD] at h
    split at h
    · rename_i c
      obtain rfl : d = e := Option.some.inj h
      exact ⟨Nat.le_refl _, by omega, c⟩
    · have := bsD_some h
      exact ⟨by omega, by omega, this.2.2⟩
theorem bsD_none {P : pRow} {p l : Nat} {due : Int} {n : Nat} : ∀ {f d : Nat}, bsD P p l due n f d = none → ∀ e, d ≤ e → e < d + f → ¬ (n ≤ lg P p e ∧ cC P n e l + rt P (66 * (p + n) + 2 * e) = due)
  | 0, _, _ => fun e h1 h2 => absurd h2 (by omega)
  | f + 1, d, h => fun e h1 h2 => by
    rw [bsD] at h
    split at h
    · exact absurd h (by simp)
    · rename_i c
      by_cases he : e = d
      · rw [he]; exact c
      · exact bsD_none h e (by omega) (by omega)
theorem bsN_some {P : pRow} {p l : Nat} {due : Int} : ∀ {f n : Nat} {c : Nat × Nat}, bsN P p l due f n = some c → P 3 ≤ (c.1 : Int) ∧ c.1 ≤ n ∧ 1 ≤ c.2 ∧ c.2 < 33 ∧ c.1 ≤ lg P p c.2
  | 0, _, _, h => by simp [bsN] at h
  | f + 1, n, c, h => by
    rw [bsN] at h
    split at h
    · exact absurd h (by simp)
    · split at h
      · rename_i d hd
        obtain rfl : (n, d) = c := Option.some.inj h
        have := bsD_some hd
        exact ⟨by simp only; omega, Nat.le_refl _, by simp only; omega, by simp only; omega, this.2.2.1⟩
      · have := bsN_some h
        exact ⟨this.1, by omega, this.2.2⟩
theorem bsN_ne {P : pRow} {p l : Nat} {due : Int} {n0 d0 : Nat} (h0 : P 3 ≤ (n0 : Int)) (h1 : 1 ≤ d0) (h2 : d0 < 33) (h3 : n0 ≤ lg P p d0) (h4 : cC P n0 d0 l + rt P (66 * (p + n0) + 2 * d0) = due) : ∀ {f n : Nat}, n0 ≤ n → n < n0 + f → bsN P p l due f n ≠ none
  | 0, _, h5, h6 => absurd h6 (by omega)
  | f + 1, n, h5, h6 => by
    rw [bsN, if_neg (by omega)]
    split
    · simp
    · rename_i hd
      by_cases e : n = n0
      · subst e
        exact absurd ⟨h3, h4⟩ (bsD_none hd d0 h1 (by omega))
      · exact bsN_ne h0 h1 h2 h3 h4 (by omega) (by omega)
theorem bst_ex {P : pRow} (hw : pWf P) {p l r : Nat} (hp : (p : Int) < P 0) (hl : l < 33) (hr : r < 2) (hn : ¬ lC P p r + rt P (66 * (p + 1) + 2 * l + 1) = rt P (66 * p + 2 * l + r)) : bsN P p l (rt P (66 * p + 2 * l + r)) 13 (P 4).toNat ≠ none := by
  have h1 := rt_eq hw hp hl hr
  have h2 := (rt_rB hw).b hw (j := 66 * p + 2 * l + r) (by omega) (by omega)
  have h3 : rt P (66 * p + 2 * l + r) = ccp P (rt P) p l := by
    unfold lyV at h1
    rcases Int.le_total (ccp P (rt P) p l) (lC P p r + rt P (66 * (p + 1) + 2 * l + 1)) with h | h
    · rw [Int.min_eq_left h] at h1; exact h1
    · rw [Int.min_eq_right h] at h1; exact absurd h1.symm hn
  rcases ccp_ex P (rt P) p l with h4 | ⟨d, n, h5, h6, h7, h8, h9⟩
  · omega
  · have h10 := lg_le P p d
    have h11 := hw.2.2.2.2.2.2.1
    have h12 := hw.2.2.2.2.2.2.2.2.1
    have h13 := hw.2.2.2.2.2.2.2.2.2.1
    exact bsN_ne (by omega) h5 h6 h8 (by rw [h3, h9]) (by omega) (by omega)
theorem lg_ge {P : pRow} {p d : Nat} (h : lg P p d ≠ 0) : P 3 ≤ (lg P p d : Int) := by
  unfold lg at h ⊢
  split at h
  · rename_i c
    rw [if_pos c]
    unfold lgB at h ⊢
    split at h
    · exact absurd rfl h
    · rename_i c2
      rw [if_neg c2]
      omega
  · exact absurd rfl h
theorem loN_ex (P : pRow) (p : Nat) : loN P p = 0 ∨ ∃ d, 1 ≤ d ∧ d < 33 ∧ lg P p d = loN P p := by
  unfold loN
  refine fU_ind (fun _ x => x = 0 ∨ ∃ d, 1 ≤ d ∧ d < 33 ∧ lg P p d = x) _ _ _ (Or.inl rfl) (fun d b h1 h2 hb => ?_)
  rcases Nat.le_total b (lg P p d) with h | h
  · rw [Nat.max_eq_right h]; exact Or.inr ⟨d, h1, by omega, rfl⟩
  · rw [Nat.max_eq_left h]; exact hb
theorem loN_max (P : pRow) (p d : Nat) (h1 : 1 ≤ d) (h2 : d < 33) : lg P p d ≤ loN P p := by
  have key : ∀ (n i a : Nat), (∀ d, 1 ≤ d → d < i → lg P p d ≤ a) → ∀ d, 1 ≤ d → d < i + n → lg P p d ≤ fU (fun d a => max a (lg P p d)) n i a := by
    intro n
    induction n with
    | zero => intro i a h d h1 h2; exact h d h1 (by omega)
    | succ n ih =>
      intro i a h d h1 h2
      rw [fU_s]
      refine ih (i + 1) _ (fun d h3 h4 => ?_) d h1 (by omega)
      by_cases e : d = i
      · subst e; exact Nat.le_max_right _ _
      · exact Nat.le_trans (h d h3 (by omega)) (Nat.le_max_left _ _)
  exact key 32 1 0 (fun d h1 h2 => by omega) d h1 (by omega)
theorem fdD_ok {P : pRow} {p m d0 : Nat} (h0 : lg P p d0 = m) : ∀ f d, d ≤ d0 → d0 < d + f → d ≤ fdD P p m f d ∧ fdD P p m f d ≤ d0 ∧ lg P p (fdD P p m f d) = m
  | 0, d, h1, h2 => absurd h2 (by omega)
  | f + 1, d, h1, h2 => by
    rw [fdD]
    split
    · rename_i c
      exact ⟨Nat.le_refl _, h1, c⟩
    · rename_i c
      have : d ≠ d0 := fun e => c (by rw [e]; exact h0)
      have := fdD_ok h0 f (d + 1) (by omega) (by omega)
      exact ⟨by omega, this.2⟩
theorem neN_ok {P : pRow} {p : Nat} (h : loN P p ≠ 0) : 1 ≤ neN P p ∧ neN P p < 33 ∧ lg P p (neN P p) = loN P p := by
  rcases loN_ex P p with h0 | ⟨d, h1, h2, h3⟩
  · exact absurd h0 h
  · unfold neN
    rw [if_neg h]
    have := fdD_ok h3 32 1 h1 (by omega)
    exact ⟨this.1, by omega, this.2.2⟩
/-- what is chosen is a literal, or a copy that there is -/
def cOk (P : pRow) (p : Nat) (c : Nat × Nat) : Prop := c = (1, 0) ∨ (1 ≤ c.2 ∧ c.2 < 33 ∧ P 3 ≤ (c.1 : Int) ∧ c.1 ≤ lg P p c.2)
theorem cOk_lit (P : pRow) (p : Nat) : cOk P p (1, 0) := Or.inl rfl
theorem cOk_near (P : pRow) (p : Nat) (h : 0 < loN P p) : cOk P p (loN P p, neN P p) := by
  have h1 := neN_ok (P := P) (p := p) (Nat.pos_iff_ne_zero.mp h)
  generalize loN P p = m at h h1 ⊢
  generalize neN P p = d at h1 ⊢
  have h2 : P 3 ≤ (lg P p d : Int) := lg_ge (by rw [h1.2.2]; omega)
  rw [h1.2.2] at h2
  exact Or.inr ⟨h1.1, h1.2.1, h2, by rw [h1.2.2]; exact Nat.le_refl _⟩
theorem chs_ok {P : pRow} (hw : pWf P) (k : Nat) {p l r : Nat} (hp : (p : Int) < P 0) (hl : l < 33) (hr : r < 2) : cOk P p (chs P k p l r) := by
  unfold chs
  by_cases h0 : k = 0
  · rw [if_pos h0]; exact cOk_lit P p
  · rw [if_neg h0]
    by_cases h3 : k = 3
    · rw [if_pos h3]
      unfold bst
      by_cases c : lC P p r + rt P (66 * (p + 1) + 2 * l + 1) = rt P (66 * p + 2 * l + r)
      · rw [if_pos c]; exact cOk_lit P p
      · rw [if_neg c]
        obtain ⟨e, he⟩ := Option.ne_none_iff_exists'.mp (bst_ex hw hp hl hr c)
        rw [he]
        have h2 := bsN_some he
        exact Or.inr ⟨h2.2.2.1, h2.2.2.2.1, h2.1, h2.2.2.2.2⟩
    · rw [if_neg h3]
      by_cases c : 0 < loN P p ∧ ¬ (k = 2 ∧ wts P p)
      · rw [if_pos c]; exact cOk_near P p c.1
      · rw [if_neg c]; exact cOk_lit P p
/-! the run of a parse: place, last distance, whether a literal stands ahead, after i steps -/
def nx (c : Nat × Nat) (s : Nat × Nat × Nat) : Nat × Nat × Nat := (s.1 + c.1, if c.2 = 0 then s.2.1 else c.2, if c.2 = 0 then 1 else 0)
def cha (P : pRow) (k : Nat) (s : Nat × Nat × Nat) : Nat × Nat := chs P k s.1 s.2.1 s.2.2
def sq (P : pRow) (k : Nat) : Nat → Nat × Nat × Nat
  | 0 => (0, 0, 0)
  | i + 1 => nx (cha P k (sq P k i)) (sq P k i)
/-- a state within the text -/
def sOk (P : pRow) (s : Nat × Nat × Nat) : Prop := (s.1 : Int) ≤ P 0 ∧ s.2.1 < 33 ∧ s.2.2 < 2
theorem cha_ok {P : pRow} (hw : pWf P) (k : Nat) {s : Nat × Nat × Nat} (hs : sOk P s) (hp : (s.1 : Int) < P 0) : cOk P s.1 (cha P k s) := chs_ok hw k hp hs.2.1 hs.2.2
/-- the bounds of what is chosen -/
theorem cha_b {P : pRow} (hw : pWf P) (k : Nat) {s : Nat × Nat × Nat} (hs : sOk P s) (hp : (s.1 : Int) < P 0) : 1 ≤ (cha P k s).1 ∧ (cha P k s).1 ≤ 12 ∧ ((s.1 + (cha P k s).1 : Nat) : Int) ≤ P 0 ∧ (cha P k s).2 < 33 ∧ (cha P k s).2 ≤ s.1 := by
  rcases cha_ok hw k hs hp with h | ⟨h1, h2, h3, h4⟩
  · rw [h]
    exact ⟨Nat.le_refl _, by decide, by simp only; omega, by decide, Nat.zero_le _⟩
  · generalize cha P k s = c at h1 h2 h3 h4 ⊢
    have h5 := hw.2.2.2.2.2.2.1
    have h6 := hw.2.2.2.2.2.2.2.2.2.1
    have h7 := lg_p (P := P) (p := s.1) (d := c.2) (by omega)
    have h8 := lg_le P s.1 c.2
    exact ⟨by omega, by omega, by omega, h2, h7.2⟩
theorem nx_ok {P : pRow} (hw : pWf P) (k : Nat) {s : Nat × Nat × Nat} (hs : sOk P s) (hp : (s.1 : Int) < P 0) : sOk P (nx (cha P k s) s) := by
  have h1 := cha_b hw k hs hp
  refine ⟨h1.2.2.1, ?_, ?_⟩
  · show (if (cha P k s).2 = 0 then s.2.1 else (cha P k s).2) < 33
    split
    · exact hs.2.1
    · exact h1.2.2.2.1
  · show (if (cha P k s).2 = 0 then 1 else 0) < 2
    split <;> decide
/-- how many steps -/
def qNF (P : pRow) (k : Nat) : Nat → Nat → Nat
  | 0, i => i
  | f + 1, i => if ((sq P k i).1 : Int) < P 0 then qNF P k f (i + 1) else i
def qN (P : pRow) (k : Nat) : Nat := qNF P k 64 0
theorem qNF_ok {P : pRow} (hw : pWf P) (k : Nat) : ∀ (f i : Nat), sOk P (sq P k i) → i ≤ (sq P k i).1 → P 0 ≤ ((sq P k i).1 : Int) + (f : Nat) → (∀ j, j < i → sOk P (sq P k j) ∧ ((sq P k j).1 : Int) < P 0) → i ≤ qNF P k f i ∧ qNF P k f i ≤ 64 ∧ ((sq P k (qNF P k f i)).1 : Int) = P 0 ∧ sOk P (sq P k (qNF P k f i)) ∧ (∀ j, j < qNF P k f i → sOk P (sq P k j) ∧ ((sq P k j).1 : Int) < P 0)
  | 0, i, h1, h2, h3, h4 => by
    have := hw.2.1
    have := h1.1
    exact ⟨Nat.le_refl _, by show i ≤ 64; omega, by show ((sq P k i).1 : Int) = P 0; omega, h1, h4⟩
  | f + 1, i, h1, h2, h3, h4 => by
    rw [qNF]
    split
    · rename_i c
      have h5 := cha_b hw k h1 c
      have h6 : (sq P k (i + 1)).1 = (sq P k i).1 + (cha P k (sq P k i)).1 := rfl
      have h7 := qNF_ok hw k f (i + 1) (nx_ok hw k h1 c) (by omega) (by omega) (fun j hj => by
        by_cases e : j = i
        · subst e; exact ⟨h1, c⟩
        · exact h4 j (by omega))
      exact ⟨by omega, h7.2⟩
    · rename_i c
      have := hw.2.1
      have := h1.1
      exact ⟨Nat.le_refl _, by omega, by omega, h1, h4⟩
theorem qN_ok {P : pRow} (hw : pWf P) (k : Nat) : qN P k ≤ 64 ∧ ((sq P k (qN P k)).1 : Int) = P 0 ∧ sOk P (sq P k (qN P k)) ∧ (∀ j, j < qN P k → sOk P (sq P k j) ∧ ((sq P k j).1 : Int) < P 0) :=
  (qNF_ok hw k 64 0 ⟨by show (0 : Int) ≤ P 0; have := hw.1; omega, by show (0 : Nat) < 33; decide, by show (0 : Nat) < 2; decide⟩ (Nat.le_refl _) (by show P 0 ≤ (0 : Int) + (64 : Nat); have := hw.2.1; omega) (fun j hj => absurd hj (by omega))).2
abbrev qP (P : pRow) (k i : Nat) : Nat := (sq P k i).1
abbrev qL (P : pRow) (k i : Nat) : Nat := (sq P k i).2.1
abbrev qR (P : pRow) (k i : Nat) : Nat := (sq P k i).2.2
abbrev qG (P : pRow) (k i : Nat) : Nat := (cha P k (sq P k i)).1
abbrev qD (P : pRow) (k i : Nat) : Nat := (cha P k (sq P k i)).2
/-- the step's price -/
def qC (P : pRow) (k i : Nat) : Int := if qD P k i = 0 then lC P (qP P k i) (qR P k i) else cC P (qG P k i) (qD P k i) (qL P k i)
/-- the parse's -/
def qS (P : pRow) (k : Nat) : Int := fU (fun i a => a + qC P k i) (qN P k) 0 0
