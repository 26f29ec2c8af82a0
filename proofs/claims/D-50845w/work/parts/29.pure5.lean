/-! ===== PURE, 5: copies give the text; a number put ===== -/
set_option maxRecDepth 100000
theorem smF_eq {P : pRow} {p d : Nat} : ∀ f n i, n ≤ i → i < smF P p d f n → P (p + i + 43) = P (p + i - d + 43)
  | 0, n, i, h1, h2 => absurd h2 (by rw [smF]; omega)
  | f + 1, n, i, h1, h2 => by
    rw [smF] at h2
    split at h2
    · rename_i c
      by_cases e : i = n
      · subst e; exact c.2
      · exact smF_eq f (n + 1) i (by omega) h2
    · omega
theorem lg_same {P : pRow} {p d i : Nat} (hi : i < lg P p d) : P (p + i + 43) = P (p + i - d + 43) := by
  have h1 := lg_le P p d
  exact smF_eq 64 0 i (Nat.zero_le _) (by show i < sm P p d; omega)
/-- what is chosen gives the text -/
theorem q_same {P : pRow} (hw : pWf P) {k j i : Nat} (hj : j < qN P k) (hd : qD P k j ≠ 0) (h1 : qP P k j ≤ i) (h2 : i < qP P k j + qG P k j) : P (i + 43) = P (i - qD P k j + 43) := by
  have hq := (qN_ok hw k).2.2.2 j hj
  rcases cha_ok hw k hq.1 hq.2 with h | h
  · exact absurd (show qD P k j = 0 by show (cha P k (sq P k j)).2 = 0; rw [h]) hd
  · have := lg_same (P := P) (p := qP P k j) (d := qD P k j) (i := i - qP P k j) (by have := h.2.2.2; show i - (sq P k j).1 < lg P (sq P k j).1 (cha P k (sq P k j)).2; have h3 : i < (sq P k j).1 + (cha P k (sq P k j)).1 := h2; have h4 : (sq P k j).1 ≤ i := h1; omega)
    rw [show qP P k j + (i - qP P k j) = i by omega] at this
    exact this
/-- the number at a becomes v -/
def pSet (P : pRow) (a : Nat) (v : Int) : pRow := fun j => if j = a then v else P j
theorem pSet_s {P : pRow} {a : Nat} {v : Int} : pSet P a v a = v := if_pos rfl
theorem pSet_ne {P : pRow} {a j : Nat} {v : Int} (h : j ≠ a) : pSet P a v j = P j := if_neg h
theorem pWf_letter {P : pRow} (hw : pWf P) {p : Nat} {c : Int} (hc : 0 ≤ c ∧ c < 26) (hp : (p : Int) < P 0) : pWf (pSet P (p + 43) (c)) := by
  obtain ⟨w0, w0b, w1, w1b, w2, w2b, w3, w3b, w4, w4b, w5, w5b, wp, wl, wn⟩ := hw
  exact ⟨by rw [pSet_ne (by omega)]; exact w0, by rw [pSet_ne (by omega)]; exact w0b, by rw [pSet_ne (by omega)]; exact w1, by rw [pSet_ne (by omega)]; exact w1b, by rw [pSet_ne (by omega)]; exact w2, by rw [pSet_ne (by omega)]; exact w2b, by rw [pSet_ne (by omega)]; exact w3, by rw [pSet_ne (by omega)]; exact w3b, by rw [pSet_ne (by omega)]; exact w4, by rw [pSet_ne (by omega)]; exact w4b, by rw [pSet_ne (by omega)]; exact w5, by rw [pSet_ne (by omega)]; exact w5b, fun k hk => by rw [pSet_ne (by omega)]; exact wp k hk, fun j hj => by
    have h0 : pSet P (p + 43) (c) 0 = P 0 := pSet_ne (by omega)
    rw [h0] at hj
    by_cases e : j + 43 = p + 43
    · rw [e, pSet_s]; exact hc
    · rw [pSet_ne e]; exact wl j hj, fun j hj => by
    have h0 : pSet P (p + 43) (c) 0 = P 0 := pSet_ne (by omega)
    rw [h0] at hj
    rw [pSet_ne (by omega)]; exact wn j hj⟩
theorem pWf_pin {P : pRow} (hw : pWf P) {p : Nat} {c : Int} (hc : c = 0 ∨ c = 1) : pWf (pSet P (p + 107) (c)) := by
  obtain ⟨w0, w0b, w1, w1b, w2, w2b, w3, w3b, w4, w4b, w5, w5b, wp, wl, wn⟩ := hw
  exact ⟨by rw [pSet_ne (by omega)]; exact w0, by rw [pSet_ne (by omega)]; exact w0b, by rw [pSet_ne (by omega)]; exact w1, by rw [pSet_ne (by omega)]; exact w1b, by rw [pSet_ne (by omega)]; exact w2, by rw [pSet_ne (by omega)]; exact w2b, by rw [pSet_ne (by omega)]; exact w3, by rw [pSet_ne (by omega)]; exact w3b, by rw [pSet_ne (by omega)]; exact w4, by rw [pSet_ne (by omega)]; exact w4b, by rw [pSet_ne (by omega)]; exact w5, by rw [pSet_ne (by omega)]; exact w5b, fun k hk => by rw [pSet_ne (by omega)]; exact wp k hk, fun j hj => by
    have h0 : pSet P (p + 107) (c) 0 = P 0 := pSet_ne (by omega)
    rw [h0] at hj
    rw [pSet_ne (by omega)]; exact wl j hj, fun j hj => by
    have h0 : pSet P (p + 107) (c) 0 = P 0 := pSet_ne (by omega)
    rw [h0] at hj
    by_cases e : j + 107 = p + 107
    · rw [e, pSet_s]; exact hc
    · rw [pSet_ne e]; exact wn j hj⟩
theorem pWf_account {P : pRow} (hw : pWf P) {p : Nat} {c : Int} (hp : p < 6) : pWf (pSet P (p + 37) (c)) := by
  obtain ⟨w0, w0b, w1, w1b, w2, w2b, w3, w3b, w4, w4b, w5, w5b, wp, wl, wn⟩ := hw
  exact ⟨by rw [pSet_ne (by omega)]; exact w0, by rw [pSet_ne (by omega)]; exact w0b, by rw [pSet_ne (by omega)]; exact w1, by rw [pSet_ne (by omega)]; exact w1b, by rw [pSet_ne (by omega)]; exact w2, by rw [pSet_ne (by omega)]; exact w2b, by rw [pSet_ne (by omega)]; exact w3, by rw [pSet_ne (by omega)]; exact w3b, by rw [pSet_ne (by omega)]; exact w4, by rw [pSet_ne (by omega)]; exact w4b, by rw [pSet_ne (by omega)]; exact w5, by rw [pSet_ne (by omega)]; exact w5b, fun k hk => by rw [pSet_ne (by omega)]; exact wp k hk, fun j hj => by
    have h0 : pSet P (p + 37) (c) 0 = P 0 := pSet_ne (by omega)
    rw [h0] at hj
    rw [pSet_ne (by omega)]; exact wl j hj, fun j hj => by
    have h0 : pSet P (p + 37) (c) 0 = P 0 := pSet_ne (by omega)
    rw [h0] at hj
    rw [pSet_ne (by omega)]; exact wn j hj⟩
theorem pWf_price {P : pRow} (hw : pWf P) {p : Nat} {c : Int} (hp : p < 31) (hc : 0 ≤ c ∧ c ≤ 40) : pWf (pSet P (p + 6) (c)) := by
  obtain ⟨w0, w0b, w1, w1b, w2, w2b, w3, w3b, w4, w4b, w5, w5b, wp, wl, wn⟩ := hw
  exact ⟨by rw [pSet_ne (by omega)]; exact w0, by rw [pSet_ne (by omega)]; exact w0b, by rw [pSet_ne (by omega)]; exact w1, by rw [pSet_ne (by omega)]; exact w1b, by rw [pSet_ne (by omega)]; exact w2, by rw [pSet_ne (by omega)]; exact w2b, by rw [pSet_ne (by omega)]; exact w3, by rw [pSet_ne (by omega)]; exact w3b, by rw [pSet_ne (by omega)]; exact w4, by rw [pSet_ne (by omega)]; exact w4b, by rw [pSet_ne (by omega)]; exact w5, by rw [pSet_ne (by omega)]; exact w5b, fun k hk => by
    by_cases e : k + 6 = p + 6
    · rw [e, pSet_s]; exact hc
    · rw [pSet_ne e]; exact wp k hk, fun j hj => by
    have h0 : pSet P (p + 6) (c) 0 = P 0 := pSet_ne (by omega)
    rw [h0] at hj
    rw [pSet_ne (by omega)]; exact wl j hj, fun j hj => by
    have h0 : pSet P (p + 6) (c) 0 = P 0 := pSet_ne (by omega)
    rw [h0] at hj
    rw [pSet_ne (by omega)]; exact wn j hj⟩
def lsO (k : Nat) : Nat := if k = 2 then 2 else if k = 3 then 4 else 1
def msO (k : Nat) : Nat := if k = 0 then 32 else if k = 1 then 16 else if k = 2 then 4 else if k = 3 then 12 else 8
theorem pWf_set0 {P : pRow} (hw : pWf P) {c : Int} (hc : 1 ≤ c ∧ c ≤ 32) : pWf (pSet P (1) (c)) := by
  obtain ⟨w0, w0b, w1, w1b, w2, w2b, w3, w3b, w4, w4b, w5, w5b, wp, wl, wn⟩ := hw
  exact ⟨by rw [pSet_ne (by omega)]; exact w0, by rw [pSet_ne (by omega)]; exact w0b, by rw [pSet_s]; exact hc.1, by rw [pSet_s]; exact hc.2, by rw [pSet_ne (by omega)]; exact w2, by rw [pSet_ne (by omega)]; exact w2b, by rw [pSet_ne (by omega)]; exact w3, by rw [pSet_ne (by omega)]; exact w3b, by rw [pSet_ne (by omega)]; exact w4, by rw [pSet_ne (by omega)]; exact w4b, by rw [pSet_ne (by omega)]; exact w5, by rw [pSet_ne (by omega)]; exact w5b, fun k hk => by rw [pSet_ne (by omega)]; exact wp k hk, fun j hj => by
    have h0 : pSet P (1) (c) 0 = P 0 := pSet_ne (by omega)
    rw [h0] at hj
    rw [pSet_ne (by omega)]; exact wl j hj, fun j hj => by
    have h0 : pSet P (1) (c) 0 = P 0 := pSet_ne (by omega)
    rw [h0] at hj
    rw [pSet_ne (by omega)]; exact wn j hj⟩
theorem pWf_set1 {P : pRow} (hw : pWf P) {c : Int} (hc : 1 ≤ c ∧ c ≤ 16) : pWf (pSet P (2) (c)) := by
  obtain ⟨w0, w0b, w1, w1b, w2, w2b, w3, w3b, w4, w4b, w5, w5b, wp, wl, wn⟩ := hw
  exact ⟨by rw [pSet_ne (by omega)]; exact w0, by rw [pSet_ne (by omega)]; exact w0b, by rw [pSet_ne (by omega)]; exact w1, by rw [pSet_ne (by omega)]; exact w1b, by rw [pSet_s]; exact hc.1, by rw [pSet_s]; exact hc.2, by rw [pSet_ne (by omega)]; exact w3, by rw [pSet_ne (by omega)]; exact w3b, by rw [pSet_ne (by omega)]; exact w4, by rw [pSet_ne (by omega)]; exact w4b, by rw [pSet_ne (by omega)]; exact w5, by rw [pSet_ne (by omega)]; exact w5b, fun k hk => by rw [pSet_ne (by omega)]; exact wp k hk, fun j hj => by
    have h0 : pSet P (2) (c) 0 = P 0 := pSet_ne (by omega)
    rw [h0] at hj
    rw [pSet_ne (by omega)]; exact wl j hj, fun j hj => by
    have h0 : pSet P (2) (c) 0 = P 0 := pSet_ne (by omega)
    rw [h0] at hj
    rw [pSet_ne (by omega)]; exact wn j hj⟩
theorem pWf_set2 {P : pRow} (hw : pWf P) {c : Int} (hc : 2 ≤ c ∧ c ≤ 4) : pWf (pSet P (3) (c)) := by
  obtain ⟨w0, w0b, w1, w1b, w2, w2b, w3, w3b, w4, w4b, w5, w5b, wp, wl, wn⟩ := hw
  exact ⟨by rw [pSet_ne (by omega)]; exact w0, by rw [pSet_ne (by omega)]; exact w0b, by rw [pSet_ne (by omega)]; exact w1, by rw [pSet_ne (by omega)]; exact w1b, by rw [pSet_ne (by omega)]; exact w2, by rw [pSet_ne (by omega)]; exact w2b, by rw [pSet_s]; exact hc.1, by rw [pSet_s]; exact hc.2, by rw [pSet_ne (by omega)]; exact w4, by rw [pSet_ne (by omega)]; exact w4b, by rw [pSet_ne (by omega)]; exact w5, by rw [pSet_ne (by omega)]; exact w5b, fun k hk => by rw [pSet_ne (by omega)]; exact wp k hk, fun j hj => by
    have h0 : pSet P (3) (c) 0 = P 0 := pSet_ne (by omega)
    rw [h0] at hj
    rw [pSet_ne (by omega)]; exact wl j hj, fun j hj => by
    have h0 : pSet P (3) (c) 0 = P 0 := pSet_ne (by omega)
    rw [h0] at hj
    rw [pSet_ne (by omega)]; exact wn j hj⟩
theorem pWf_set3 {P : pRow} (hw : pWf P) {c : Int} (hc : 4 ≤ c ∧ c ≤ 12) : pWf (pSet P (4) (c)) := by
  obtain ⟨w0, w0b, w1, w1b, w2, w2b, w3, w3b, w4, w4b, w5, w5b, wp, wl, wn⟩ := hw
  exact ⟨by rw [pSet_ne (by omega)]; exact w0, by rw [pSet_ne (by omega)]; exact w0b, by rw [pSet_ne (by omega)]; exact w1, by rw [pSet_ne (by omega)]; exact w1b, by rw [pSet_ne (by omega)]; exact w2, by rw [pSet_ne (by omega)]; exact w2b, by rw [pSet_ne (by omega)]; exact w3, by rw [pSet_ne (by omega)]; exact w3b, by rw [pSet_s]; exact hc.1, by rw [pSet_s]; exact hc.2, by rw [pSet_ne (by omega)]; exact w5, by rw [pSet_ne (by omega)]; exact w5b, fun k hk => by rw [pSet_ne (by omega)]; exact wp k hk, fun j hj => by
    have h0 : pSet P (4) (c) 0 = P 0 := pSet_ne (by omega)
    rw [h0] at hj
    rw [pSet_ne (by omega)]; exact wl j hj, fun j hj => by
    have h0 : pSet P (4) (c) 0 = P 0 := pSet_ne (by omega)
    rw [h0] at hj
    rw [pSet_ne (by omega)]; exact wn j hj⟩
theorem pWf_set4 {P : pRow} (hw : pWf P) {c : Int} (hc : 1 ≤ c ∧ c ≤ 8) : pWf (pSet P (5) (c)) := by
  obtain ⟨w0, w0b, w1, w1b, w2, w2b, w3, w3b, w4, w4b, w5, w5b, wp, wl, wn⟩ := hw
  exact ⟨by rw [pSet_ne (by omega)]; exact w0, by rw [pSet_ne (by omega)]; exact w0b, by rw [pSet_ne (by omega)]; exact w1, by rw [pSet_ne (by omega)]; exact w1b, by rw [pSet_ne (by omega)]; exact w2, by rw [pSet_ne (by omega)]; exact w2b, by rw [pSet_ne (by omega)]; exact w3, by rw [pSet_ne (by omega)]; exact w3b, by rw [pSet_ne (by omega)]; exact w4, by rw [pSet_ne (by omega)]; exact w4b, by rw [pSet_s]; exact hc.1, by rw [pSet_s]; exact hc.2, fun k hk => by rw [pSet_ne (by omega)]; exact wp k hk, fun j hj => by
    have h0 : pSet P (5) (c) 0 = P 0 := pSet_ne (by omega)
    rw [h0] at hj
    rw [pSet_ne (by omega)]; exact wl j hj, fun j hj => by
    have h0 : pSet P (5) (c) 0 = P 0 := pSet_ne (by omega)
    rw [h0] at hj
    rw [pSet_ne (by omega)]; exact wn j hj⟩
theorem pWf_set {P : pRow} (hw : pWf P) {k : Nat} {c : Int} (hk : k < 5) (hc : (lsO k : Int) ≤ c ∧ c ≤ (msO k : Int)) : pWf (pSet P (k + 1) c) := by
  rcases (show k = 0 ∨ k = 1 ∨ k = 2 ∨ k = 3 ∨ k = 4 by omega) with rfl | rfl | rfl | rfl | rfl
  · exact pWf_set0 hw hc
  · exact pWf_set1 hw hc
  · exact pWf_set2 hw hc
  · exact pWf_set3 hw hc
  · exact pWf_set4 hw hc
/-- a row of from is copied into a row -/
def cpR (f : pRow) (at0 : Nat) (g : pRow) (pl n : Nat) : pRow := fun j => if pl ≤ j ∧ j < pl + n then f (at0 + (j - pl)) else g j
