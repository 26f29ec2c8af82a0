/-! ===== PURE, 3: loops as folds; prices; the table of the rest ===== -/
set_option maxRecDepth 100000
/-- f at i, i + 1 .. n times -/
def fU {α : Type} (f : Nat → α → α) : Nat → Nat → α → α
  | 0, _, a => a
  | n + 1, i, a => fU f n (i + 1) (f i a)
theorem fU_s {α : Type} (f : Nat → α → α) (n i : Nat) (a : α) : fU f (n + 1) i a = fU f n (i + 1) (f i a) := rfl
theorem fU_0 {α : Type} (f : Nat → α → α) (i : Nat) (a : α) : fU f 0 i a = a := rfl
theorem fU_ind {α : Type} {f : Nat → α → α} (J : Nat → α → Prop) : ∀ (n i : Nat) (a : α), J i a → (∀ k b, i ≤ k → k < i + n → J k b → J (k + 1) (f k b)) → J (i + n) (fU f n i a)
  | 0, i, a, h, _ => h
  | n + 1, i, a, h, k => by
    rw [fU_s, show i + (n + 1) = i + 1 + n by omega]
    exact fU_ind J n (i + 1) _ (k i a (Nat.le_refl _) (by omega) h) (fun q b h1 h2 => k q b (by omega) (by omega))
theorem fU_congr {α : Type} {f g : Nat → α → α} : ∀ (n i : Nat) (a : α), (∀ k b, i ≤ k → k < i + n → f k b = g k b) → fU f n i a = fU g n i a
  | 0, _, _, _ => rfl
  | n + 1, i, a, h => by
    rw [fU_s, fU_s, h i a (Nat.le_refl _) (by omega)]
    exact fU_congr n (i + 1) _ (fun k b h1 h2 => h k b (by omega) (by omega))
/-- two folds keep a relation -/
theorem fU_rel {α β : Type} {f : Nat → α → α} {g : Nat → β → β} (J : Nat → α → β → Prop) : ∀ (n i : Nat) (a : α) (b : β), J i a b → (∀ k a b, i ≤ k → k < i + n → J k a b → J (k + 1) (f k a) (g k b)) → J (i + n) (fU f n i a) (fU g n i b)
  | 0, i, a, b, h, _ => h
  | n + 1, i, a, b, h, k => by
    rw [fU_s, fU_s, show i + (n + 1) = i + 1 + n by omega]
    exact fU_rel J n (i + 1) _ _ (k i a b (Nat.le_refl _) (by omega) h) (fun q a b h1 h2 => k q a b (by omega) (by omega))
def btF : Nat → Nat → Nat
  | 0, _ => 0
  | f + 1, v => if v = 0 then 0 else btF f (v / 2) + 1
/-- how many bits -/
def bt (v : Nat) : Nat := btF 7 v
theorem btF_le : ∀ f v, btF f v ≤ f
  | 0, _ => Nat.le_refl 0
  | f + 1, v => by
    rw [btF]
    have := btF_le f (v / 2)
    split <;> omega
theorem bt_le (v : Nat) : bt v ≤ 7 := btF_le 7 v
/-- how many copies at a place -/
def nCp (P : pRow) (p : Nat) : Int := fU (fun d a => a + (if (lg P p d : Int) = 0 then 0 else (lg P p d : Int) - P 3 + 1)) 32 1 0
def loN (P : pRow) (p : Nat) : Nat := fU (fun d a => max a (lg P p d)) 32 1 0
def fdD (P : pRow) (p m : Nat) : Nat → Nat → Nat
  | 0, _ => 0
  | f + 1, d => if lg P p d = m then d else fdD P p m f (d + 1)
/-- the nearest of the longest ones -/
def neN (P : pRow) (p : Nat) : Nat := if loN P p = 0 then 0 else fdD P p (loN P p) 32 1
def cC (P : pRow) (n d l : Nat) : Int := P 9 * (bt n : Int) + (if d = l then P 10 else P 7 + P 8 * (bt d : Int))
def lC (P : pRow) (p r : Nat) : Int := P (5 + (P (p + 43)).toNat + 6) + (if r = 0 then P 6 else 0)
/-- the least with a copy, by the table R -/
def cpIn (P R : pRow) (p l d : Nat) (b : Int) : Int := fU (fun n b => min b (cC P n d l + R (66 * (p + n) + 2 * d))) (lg P p d + 1 - (P 3).toNat) (P 3).toNat b
def ccp (P R : pRow) (p l : Nat) : Int := fU (fun d b => cpIn P R p l d b) 32 1 1000000
def lyV (P R : pRow) (p l r : Nat) : Int := min (ccp P R p l) (lC P p r + R (66 * (p + 1) + 2 * l + 1))
/-- the table with a place's first m last distances laid -/
def lyTo (P R : pRow) (p m : Nat) : pRow := fun j => if 66 * p ≤ j ∧ j < 66 * p + 2 * m then lyV P R p ((j - 66 * p) / 2) ((j - 66 * p) % 2) else R j
def lyDn (P : pRow) : Nat → pRow → pRow
  | 0, R => R
  | k + 1, R => lyDn P k (lyTo P R k 33)
def lyZ (P R : pRow) (m : Nat) : pRow := fun j => if 66 * (P 0).toNat ≤ j ∧ j < 66 * (P 0).toNat + 2 * m then 0 else R j
def lyR (P R : pRow) : pRow := lyDn P (P 0).toNat (lyZ P R 33)
/-- what the rest costs -/
def rt (P : pRow) : pRow := lyR P (fun _ => 0)
def bPr (P : pRow) : Int := rt P 0
theorem pW_pr {P : pRow} (h : pWf P) {k : Nat} (hk : k < 31) : 0 ≤ P (k + 6) ∧ P (k + 6) ≤ 40 := h.2.2.2.2.2.2.2.2.2.2.2.2.1 k hk
theorem pW_le {P : pRow} (h : pWf P) {j : Nat} (hk : (j : Int) < P 0) : 0 ≤ P (j + 43) ∧ P (j + 43) < 26 := h.2.2.2.2.2.2.2.2.2.2.2.2.2.1 j hk
theorem cC_b {P : pRow} (h : pWf P) (n d l : Nat) : 0 ≤ cC P n d l ∧ cC P n d l ≤ 600 := by
  have h9 : 0 ≤ P 9 ∧ P 9 ≤ 40 := pW_pr h (k := 3) (by omega)
  have h10 : 0 ≤ P 10 ∧ P 10 ≤ 40 := pW_pr h (k := 4) (by omega)
  have h7 : 0 ≤ P 7 ∧ P 7 ≤ 40 := pW_pr h (k := 1) (by omega)
  have h8 : 0 ≤ P 8 ∧ P 8 ≤ 40 := pW_pr h (k := 2) (by omega)
  have a1 := Int.mul_nonneg h9.1 (Int.natCast_nonneg (bt n))
  have a2 := Int.mul_le_mul h9.2 (show (bt n : Int) ≤ 7 by have := bt_le n; omega) (Int.natCast_nonneg (bt n)) (by decide)
  have a3 := Int.mul_nonneg h8.1 (Int.natCast_nonneg (bt d))
  have a4 := Int.mul_le_mul h8.2 (show (bt d : Int) ≤ 7 by have := bt_le d; omega) (Int.natCast_nonneg (bt d)) (by decide)
  unfold cC
  split <;> constructor <;> omega
theorem lC_b {P : pRow} (h : pWf P) {p : Nat} (hp : (p : Int) < P 0) (r : Nat) : 0 ≤ lC P p r ∧ lC P p r ≤ 80 := by
  have h6 : 0 ≤ P 6 ∧ P 6 ≤ 40 := pW_pr h (k := 0) (by omega)
  have hl := pW_le h hp
  have hc := pW_pr h (k := 5 + (P (p + 43)).toNat) (by omega)
  unfold lC
  split <;> constructor <;> omega
theorem lg_p {P : pRow} {p d : Nat} (h : lg P p d ≠ 0) : (p : Int) + lg P p d ≤ P 0 ∧ d ≤ p := by
  unfold lg at h ⊢
  split at h
  · rename_i c
    rw [if_pos c]
    have h1 := c.2.2.1.1
    have h2 := lgB_le P p d
    have h3 := sm_end (P := P) (p := p) (d := d) (by omega)
    exact ⟨by omega, c.2.1⟩
  · exact absurd rfl h
/-- the table's numbers from a place on are prices -/
def rB (P : pRow) (k : Nat) (R : pRow) : Prop := ∀ j, 66 * k ≤ j → j < 66 * ((P 0).toNat + 1) → 0 ≤ R j ∧ R j ≤ 80 * (P 0 - (j / 66 : Nat))
theorem rB.b {P : pRow} {k : Nat} {R : pRow} (h : rB P k R) (hw : pWf P) {j : Nat} (h1 : 66 * k ≤ j) (h2 : j < 66 * ((P 0).toNat + 1)) : 0 ≤ R j ∧ R j ≤ 5120 := by
  have h3 := h j h1 h2
  have h4 := hw.2.1
  constructor
  · exact h3.1
  · omega
theorem cpIn_b {P R : pRow} {p l d : Nat} {b : Int} (hw : pWf P) (hp : (p : Int) < P 0) (hR : rB P (p + 1) R) (hd : d < 33) (hb : 0 ≤ b) : 0 ≤ cpIn P R p l d b ∧ cpIn P R p l d b ≤ b := by
  unfold cpIn
  refine fU_ind (fun _ x => 0 ≤ x ∧ x ≤ b) _ _ b ⟨hb, Int.le_refl _⟩ (fun n x h1 h2 h3 => ?_)
  have h5 := hw.2.2.2.2.2.2.1
  have h4 := lg_p (P := P) (p := p) (d := d) (by omega)
  have h6 := hR.b hw (j := 66 * (p + n) + 2 * d) (by omega) (by omega)
  have h7 := (cC_b hw n d l).1
  constructor
  · exact Int.le_min.mpr ⟨h3.1, by omega⟩
  · exact Int.le_trans (Int.min_le_left _ _) h3.2
theorem ccp_b {P R : pRow} {p l : Nat} (hw : pWf P) (hp : (p : Int) < P 0) (hR : rB P (p + 1) R) : 0 ≤ ccp P R p l ∧ ccp P R p l ≤ 1000000 := by
  unfold ccp
  refine fU_ind (fun _ x => 0 ≤ x ∧ x ≤ 1000000) _ _ _ ⟨by decide, by decide⟩ (fun d x h1 h2 h3 => ?_)
  have := cpIn_b (l := l) (d := d) (b := x) hw hp hR (by omega) h3.1
  exact ⟨this.1, by omega⟩
theorem ccp_congr {P R R' : pRow} {p l : Nat} (hw : pWf P) (hp : (p : Int) < P 0) (hR : ∀ j, 66 * (p + 1) ≤ j → j < 66 * ((P 0).toNat + 1) → R j = R' j) : ccp P R p l = ccp P R' p l := by
  unfold ccp
  refine fU_congr _ _ _ (fun d b h1 h2 => ?_)
  unfold cpIn
  refine fU_congr _ _ _ (fun n x h3 h4 => ?_)
  have h6 := hw.2.2.2.2.2.2.1
  have h5 := lg_p (P := P) (p := p) (d := d) (by omega)
  simp only [hR (66 * (p + n) + 2 * d) (by omega) (by omega)]
theorem lyV_congr {P R R' : pRow} {p l r : Nat} (hl : l < 33) (hw : pWf P) (hp : (p : Int) < P 0) (hR : ∀ j, 66 * (p + 1) ≤ j → j < 66 * ((P 0).toNat + 1) → R j = R' j) : lyV P R p l r = lyV P R' p l r := by
  unfold lyV
  rw [ccp_congr hw hp hR, hR _ (by omega) (by omega)]
theorem lyTo_up {P R : pRow} {p m j : Nat} (hm : m ≤ 33) (hj : 66 * (p + 1) ≤ j) : lyTo P R p m j = R j := by
  unfold lyTo
  rw [if_neg (by omega)]
theorem lyTo_s {P R : pRow} {p m : Nat} : lyTo P R p (m + 1) = fun j => if j = 66 * p + 2 * m + 1 then lyV P R p m 1 else if j = 66 * p + 2 * m then lyV P R p m 0 else lyTo P R p m j := by
  funext j
  unfold lyTo
  by_cases h1 : j = 66 * p + 2 * m + 1
  · subst h1
    rw [if_pos rfl, if_pos (by omega), show (66 * p + 2 * m + 1 - 66 * p) / 2 = m by omega, show (66 * p + 2 * m + 1 - 66 * p) % 2 = 1 by omega]
  · rw [if_neg h1]
    by_cases h2 : j = 66 * p + 2 * m
    · subst h2
      rw [if_pos rfl, if_pos (by omega), show (66 * p + 2 * m - 66 * p) / 2 = m by omega, show (66 * p + 2 * m - 66 * p) % 2 = 0 by omega]
    · rw [if_neg h2]
      by_cases h3 : 66 * p ≤ j ∧ j < 66 * p + 2 * m
      · rw [if_pos h3, if_pos (by omega)]
      · rw [if_neg h3, if_neg (by omega)]
theorem lyTo_0 {P R : pRow} {p : Nat} : lyTo P R p 0 = R := by
  funext j
  unfold lyTo
  rw [if_neg (by omega)]
theorem lyV_b {P R : pRow} {p l r : Nat} (hl : l < 33) (hw : pWf P) (hp : (p : Int) < P 0) (hR : rB P (p + 1) R) : 0 ≤ lyV P R p l r ∧ lyV P R p l r ≤ 80 * (P 0 - p) := by
  have h1 := ccp_b (l := l) hw hp hR
  have h2 := lC_b hw hp r
  have h3 := hR (66 * (p + 1) + 2 * l + 1) (by omega) (by omega)
  rw [show (66 * (p + 1) + 2 * l + 1) / 66 = p + 1 by omega] at h3
  unfold lyV
  constructor
  · exact Int.le_min.mpr ⟨h1.1, by omega⟩
  · exact Int.le_trans (Int.min_le_right _ _) (by omega)
theorem lyTo_rB {P R : pRow} {p : Nat} (hw : pWf P) (hp : (p : Int) < P 0) (hR : rB P (p + 1) R) : rB P p (lyTo P R p 33) := by
  intro j h1 h2
  unfold lyTo
  split
  · rename_i c
    have := lyV_b (l := (j - 66 * p) / 2) (r := (j - 66 * p) % 2) (by omega) hw hp hR
    rw [show j / 66 = p by omega]
    exact this
  · exact hR j (by omega) h2
theorem lyZ_rB {P R : pRow} (hw : pWf P) : rB P (P 0).toNat (lyZ P R 33) := by
  intro j h1 h2
  unfold lyZ
  have := hw.1
  rw [if_pos (by omega)]
  constructor
  · exact Int.le_refl _
  · omega
theorem lyDn_rB {P : pRow} (hw : pWf P) : ∀ (k : Nat) (R : pRow), (k : Int) ≤ P 0 → rB P k R → rB P 0 (lyDn P k R)
  | 0, _, _, h => h
  | k + 1, R, hk, h => by
    rw [lyDn]
    exact lyDn_rB hw k _ (by omega) (lyTo_rB hw (by omega) h)
theorem lyR_rB {P R : pRow} (hw : pWf P) : rB P 0 (lyR P R) := lyDn_rB hw _ _ (by have := hw.1; omega) (lyZ_rB hw)
theorem lyDn_congr {P : pRow} (hw : pWf P) : ∀ (k : Nat) (R R' : pRow), (k : Int) ≤ P 0 → (∀ j, 66 * k ≤ j → j < 66 * ((P 0).toNat + 1) → R j = R' j) → ∀ j, j < 66 * ((P 0).toNat + 1) → lyDn P k R j = lyDn P k R' j
  | 0, R, R', _, h => fun j hj => h j (by omega) hj
  | k + 1, R, R', hk, h => by
    rw [lyDn, lyDn]
    refine lyDn_congr hw k _ _ (by omega) (fun j h1 h2 => ?_)
    by_cases c : j < 66 * (k + 1)
    · unfold lyTo
      rw [if_pos (by omega), if_pos (by omega)]
      exact lyV_congr (by omega) hw (by omega) h
    · rw [lyTo_up (by omega) (by omega), lyTo_up (by omega) (by omega)]
      exact h j (by omega) h2
/-- the table is what the rest costs, whatever lay there -/
theorem lyR_rt {P : pRow} (hw : pWf P) (R : pRow) {j : Nat} (hj : j < 66 * ((P 0).toNat + 1)) : lyR P R j = rt P j := by
  refine lyDn_congr hw _ _ _ (by have := hw.1; omega) (fun j h1 h2 => ?_) j hj
  unfold lyZ
  rw [if_pos (by omega), if_pos (by omega)]
theorem lyR_far {P : pRow} (R : pRow) {j : Nat} (hj : 66 * ((P 0).toNat + 1) ≤ j) : lyR P R j = R j := by
  have key : ∀ k R, k ≤ (P 0).toNat → lyDn P k R j = R j := by
    intro k
    induction k with
    | zero => intro R _; rfl
    | succ k ih =>
      intro R hk
      rw [lyDn, ih _ (by omega), lyTo_up (by omega) (by omega)]
  unfold lyR
  rw [key _ _ (Nat.le_refl _)]
  unfold lyZ
  rw [if_neg (by omega)]
theorem fU_d {α : Type} {f : Nat → α → α} : ∀ (n i : Nat) (a : α), fU f (n + 1) i a = f (i + n) (fU f n i a)
  | 0, _, _ => rfl
  | n + 1, i, a => by
    rw [fU_s, fU_d n (i + 1), fU_s]
    congr 1
    omega
