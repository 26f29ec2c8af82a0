/-! ===== MM: calls as the walks use them ===== -/
set_option maxRecDepth 100000
section ZWR
variable {G : zG} {y y' : zY} {d d' pc idx n : Nat} {lv : List (Nat × Value)} {st rest as : List Value} {h : zH} {P Q : zO → zH → Prop}
/-- how it goes on behind a call -/
def zCt (G : zG) (y : zY) (d pc' pc : Nat) (lv : List (Nat × Value)) (rest : List Value) (Q : zO → zH → Prop) (r : zO) (h1 : zH) : Prop := match r with
  | .inl v => zV G y d pc' lv (v.toList ++ rest) h1 Q
  | .inr x => zT G y d pc lv rest x h1 Q
/-- it answers -/
def zOk (P : Option Value → zH → Prop) : zO → zH → Prop := fun r h' => ∃ v, r = .inl v ∧ P v h'
theorem zk_J {v : Option Value} {pc' : Nat} (k : zV G y d pc' lv (v.toList ++ rest) h Q) : ∀ r h1, zJ h v r h1 → zLe h h1 → zCt G y d pc' pc lv rest Q r h1 := by
  rintro r h1 ⟨rfl, rfl⟩ _
  exact k
theorem zk_ok {P : Option Value → zH → Prop} {pc' : Nat} (k : ∀ v h1, P v h1 → zLe h h1 → zV G y d pc' lv (v.toList ++ rest) h1 Q) : ∀ r h1, zOk P r h1 → zLe h h1 → zCt G y d pc' pc lv rest Q r h1 := by
  rintro r h1 ⟨v, rfl, hp⟩ hl
  exact k v h1 hp hl
theorem zk_J1 {v : Value} {pc' : Nat} (k : zV G y d pc' lv (v :: rest) h Q) : ∀ r h1, zJ h (some v) r h1 → zLe h h1 → zCt G y d pc' pc lv rest Q r h1 := by
  rintro r h1 ⟨rfl, rfl⟩ _
  exact k
theorem zk_J0 {pc' : Nat} (k : zV G y d pc' lv rest h Q) : ∀ r h1, zJ h none r h1 → zLe h h1 → zCt G y d pc' pc lv rest Q r h1 := by
  rintro r h1 ⟨rfl, rfl⟩ _
  exact k
/-- it answers nothing, an int, a reference, a reference or null -/
def zOkV (P : zH → Prop) : zO → zH → Prop := fun r h' => r = .inl none ∧ P h'
def zOkI (P : Int → zH → Prop) : zO → zH → Prop := fun r h' => ∃ z, r = .inl (some (.int (jI z))) ∧ P z h'
def zOkR (P : Nat → zH → Prop) : zO → zH → Prop := fun r h' => ∃ a, r = .inl (some (.ref a)) ∧ P a h'
def zOkQ (P : Option Nat → zH → Prop) : zO → zH → Prop := fun r h' => ∃ a, r = .inl (some (va_rf a)) ∧ P a h'
theorem zk_V {P : zH → Prop} {pc' : Nat} (k : ∀ h1, P h1 → zLe h h1 → zV G y d pc' lv rest h1 Q) : ∀ r h1, zOkV P r h1 → zLe h h1 → zCt G y d pc' pc lv rest Q r h1 := by
  rintro r h1 ⟨rfl, hp⟩ hl
  exact k h1 hp hl
theorem zk_I {P : Int → zH → Prop} {pc' : Nat} (k : ∀ z h1, P z h1 → zLe h h1 → zV G y d pc' lv (.int (jI z) :: rest) h1 Q) : ∀ r h1, zOkI P r h1 → zLe h h1 → zCt G y d pc' pc lv rest Q r h1 := by
  rintro r h1 ⟨z, rfl, hp⟩ hl
  exact k z h1 hp hl
theorem zk_R {P : Nat → zH → Prop} {pc' : Nat} (k : ∀ a h1, P a h1 → zLe h h1 → zV G y d pc' lv (.ref a :: rest) h1 Q) : ∀ r h1, zOkR P r h1 → zLe h h1 → zCt G y d pc' pc lv rest Q r h1 := by
  rintro r h1 ⟨a, rfl, hp⟩ hl
  exact k a h1 hp hl
theorem zk_Q {P : Option Nat → zH → Prop} {pc' : Nat} (k : ∀ a h1, P a h1 → zLe h h1 → zV G y d pc' lv (va_rf a :: rest) h1 Q) : ∀ r h1, zOkQ P r h1 → zLe h h1 → zCt G y d pc' pc lv rest Q r h1 := by
  rintro r h1 ⟨a, rfl, hp⟩ hl
  exact k a h1 hp hl
theorem zc_S (b : zBn y' n) (dec : decode (yC y) pc = .ok (.invokestatic idx, 3)) (hl : Cond.methodLink (yN y).cls idx (yN y') ∈ lw_all) (hs : Cond.static (yN y') ∈ lw_all) (hC : zM G y' d' as h P) (hst : st = as.reverse ++ rest) (hn : n = as.length) (hd : d' < d) (hr : (rest.map fun v => v.category).sum ≤ 16)
    (k : ∀ r h1, P r h1 → zLe h h1 → zCt G y d (pc + 3) pc lv rest Q r h1) : zV G y d pc lv st h Q :=
  zV_S dec hl hs b.2.2.2.2 b.2.2.2.1 hC hst (by rw [← hn]; exact b.1) hd b.2.1 b.2.2.1 hr (fun r h1 a1 a2 => by have := k r h1 a1 a2; cases r <;> exact this)
theorem zc_SN {host : String} (b : zBn y' n) (dec : decode (yC y) pc = .ok (.invokestatic idx, 3)) (hl : Cond.methodLinkNest (yN y).cls idx (yN y') host ∈ zNest) (hs : Cond.static (yN y') ∈ lw_all) (hC : zM G y' d' as h P) (hst : st = as.reverse ++ rest) (hn : n = as.length) (hd : d' < d) (hr : (rest.map fun v => v.category).sum ≤ 16) (hH : yH y' = [])
    (k : ∀ r h1, P r h1 → zLe h h1 → zCt G y d (pc + 3) pc lv rest Q r h1) : zV G y d pc lv st h Q :=
  zV_SN dec hl hs b.2.2.2.2 b.2.2.2.1 hC hst (by rw [← hn]; exact b.1) hd b.2.1 b.2.2.1 hr hH (fun r h1 a1 a2 => by have := k r h1 a1 a2; cases r <;> exact this)
theorem zc_V {a ci : Nat} {q : vw_C} (b : zBn y' n) (dec : decode (yC y) pc = .ok (.invokevirtual idx, 3)) (hl : Cond.methodLink (yN y).cls idx (yN y') ∈ lw_all) (hin : Cond.instanceMethod (yN y') ∈ lw_all) (hsel : Cond.selects q.1 (yN y') (yN y') ∈ lw_all) (hk : zK h a = ci) (hc : zCl[ci]? = some q)
    (hC : zM G y' d' (.ref a :: as) h P) (hst : st = as.reverse ++ .ref a :: rest) (hn : n = as.length) (hd : d' < d) (hr : (rest.map fun v => v.category).sum ≤ 16) (h40 : ci < 40)
    (k : ∀ r h1, P r h1 → zLe h h1 → zCt G y d (pc + 3) pc lv rest Q r h1) : zV G y d pc lv st h Q :=
  zV_V dec hl hin hsel b.2.2.2.2 b.2.2.2.1 hk hc hC hst (by rw [← hn]; exact b.1) hd b.2.1 b.2.2.1 hr h40 (fun r h1 a1 a2 => by have := k r h1 a1 a2; cases r <;> exact this)
theorem zc_VU {a ci : Nat} {q : vw_C} {x : MethodName} {owner : String} (b : zBn y' n) (dec : decode (yC y) pc = .ok (.invokevirtual idx, 3)) (hl : Cond.methodLink (yN y).cls idx x ∈ lw_all) (hsame : Cond.sameMethod x.cls owner x.name x.desc ∈ lw_all)
    (hdecl : (Cond.instanceMethod ⟨owner, x.name, x.desc⟩ ∈ lw_all ∧ ∃ b mL r, Cond.code ⟨owner, x.name, x.desc⟩ b mL r ∈ lw_all) ∨ Cond.declares ⟨owner, x.name, x.desc⟩ ∈ zNest) (hin : Cond.instanceMethod (yN y') ∈ lw_all) (hsel : Cond.selects q.1 x (yN y') ∈ lw_all) (hk : zK h a = ci) (hc : zCl[ci]? = some q)
    (hC : zM G y' d' (.ref a :: as) h P) (hst : st = as.reverse ++ .ref a :: rest) (hn : n = as.length) (hnd : x.desc = (yN y').desc) (hd : d' < d) (hmh : owner ≠ "java/lang/invoke/MethodHandle" ∧ owner ≠ "java/lang/invoke/VarHandle") (hr : (rest.map fun v => v.category).sum ≤ 16) (h40 : ci < 40) (hH : yH y' = [])
    (k : ∀ r h1, P r h1 → zLe h h1 → zCt G y d (pc + 3) pc lv rest Q r h1) : zV G y d pc lv st h Q :=
  zV_VU dec hl hsame hdecl hin hsel b.2.2.2.2 b.2.2.2.1 hk hc hC hst (by rw [hnd, ← hn]; exact b.1) hd b.2.1 hmh hr h40 hH (fun r h1 a1 a2 => by have := k r h1 a1 a2; cases r <;> exact this)
theorem zc_I {a : Nat} (b : zBn y' n) (dec : decode (yC y) pc = .ok (.invokespecial idx, 3)) (hl : Cond.methodLink (yN y).cls idx (yN y') ∈ lw_all) (hin : Cond.instanceMethod (yN y') ∈ lw_all) (hC : zM G y' d' (.ref a :: as) h P) (hst : st = as.reverse ++ .ref a :: rest) (hn : n = as.length) (hd : d' < d) (hr : (rest.map fun v => v.category).sum ≤ 16) (hH : yH y' = []) (hR : yR y' = none) (hy1 : (yN y').name = "<init>")
    (k : ∀ r h1, P r h1 → zLe h h1 → zCt G y d (pc + 3) pc lv rest Q r h1) : zV G y d pc lv st h Q :=
  zV_I dec hl hin b.2.2.2.2 b.2.2.2.1 hC hst (by rw [← hn]; exact b.1) hd b.2.1 b.2.2.1 hr hH hR hy1 (fun r h1 a1 a2 => by have := k r h1 a1 a2; cases r <;> exact this)
theorem zc_IN {a : Nat} {host : String} (b : zBn y' n) (dec : decode (yC y) pc = .ok (.invokespecial idx, 3)) (hl : Cond.methodLinkNest (yN y).cls idx (yN y') host ∈ zNest) (hin : Cond.instanceMethod (yN y') ∈ lw_all) (hC : zM G y' d' (.ref a :: as) h P) (hst : st = as.reverse ++ .ref a :: rest) (hn : n = as.length) (hd : d' < d) (hr : (rest.map fun v => v.category).sum ≤ 16) (hH : yH y' = []) (hR : yR y' = none) (hy1 : (yN y').name = "<init>")
    (k : ∀ r h1, P r h1 → zLe h h1 → zCt G y d (pc + 3) pc lv rest Q r h1) : zV G y d pc lv st h Q :=
  zV_IN dec hl hin b.2.2.2.2 b.2.2.2.1 hC hst (by rw [← hn]; exact b.1) hd b.2.1 b.2.2.1 hr hH hR hy1 (fun r h1 a1 a2 => by have := k r h1 a1 a2; cases r <;> exact this)
end ZWR
/-! an int as read: jI of its number -/
section ZWT
variable {G : zG} {y : zY} {d pc : Nat} {lv : List (Nat × Value)} {st : List Value} {h : zH} {Q : zO → zH → Prop}
theorem zV_tiald {a : Nat} {e : Int} (j n : Nat) (dec : decode (yC y) pc = .ok (.iaload, 1)) (hk : zK h a = 50) (hz : zZ h a = n) (he : e = (j : Int)) (hj : j < n) (hn : n < 2147483648) (kk : zV G y d (pc + 1) lv (.int (jI (zI h a j).toInt) :: st) h Q) : zV G y d pc lv (.int (jI e) :: .ref a :: st) h Q := zV_jiald j n dec hk hz he hj hn (by rw [jI_of (zI h a j)]; exact kk)
theorem zV_tbald {a : Nat} {e : Int} (j n : Nat) (dec : decode (yC y) pc = .ok (.baload, 1)) (hk : zK h a = 51) (hz : zZ h a = n) (he : e = (j : Int)) (hj : j < n) (hn : n < 2147483648) (kk : zV G y d (pc + 1) lv (.int (jI (zI h a j).toInt) :: st) h Q) : zV G y d pc lv (.int (jI e) :: .ref a :: st) h Q := zV_jbald j n dec hk hz he hj hn (by rw [jI_of (zI h a j)]; exact kk)
theorem zV_tzald {a : Nat} {e : Int} (j n : Nat) (dec : decode (yC y) pc = .ok (.baload, 1)) (hk : zK h a = 52) (hz : zZ h a = n) (he : e = (j : Int)) (hj : j < n) (hn : n < 2147483648) (kk : zV G y d (pc + 1) lv (.int (jI (zI h a j).toInt) :: st) h Q) : zV G y d pc lv (.int (jI e) :: .ref a :: st) h Q := zV_jzald j n dec hk hz he hj hn (by rw [jI_of (zI h a j)]; exact kk)
theorem zV_tgetf {a ci i : Nat} {q : vw_C} (k : Nat) (dec : decode (yC y) pc = .ok (.getfield i, 3)) (hl : Cond.fieldLink (yN y).cls i (q.2.1 k).1 (q.2.1 k).2.1 (q.2.1 k).2.2.1 ∈ lw_all) (hk : zK h a = ci) (hc : zCl[ci]? = some q) (hkN : k < q.2.2) (hv : zV0 h a k (zTy ci k) = .int (zI h a k)) (h40 : ci < 40) (kk : zV G y d (pc + 3) lv (.int (jI (zI h a k).toInt) :: st) h Q) : zV G y d pc lv (.ref a :: st) h Q :=
  zV_getf k dec hl hk hc hkN hv h40 (by rw [jI_of (zI h a k)]; exact kk)
theorem zV_tgetfN {a ci i : Nat} {q : vw_C} {host : String} (k : Nat) (dec : decode (yC y) pc = .ok (.getfield i, 3)) (hl : Cond.fieldLinkNest (yN y).cls i (q.2.1 k).1 (q.2.1 k).2.1 (q.2.1 k).2.2.1 host ∈ zNest) (hk : zK h a = ci) (hc : zCl[ci]? = some q) (hkN : k < q.2.2) (hv : zV0 h a k (zTy ci k) = .int (zI h a k)) (h40 : ci < 40) (kk : zV G y d (pc + 3) lv (.int (jI (zI h a k).toInt) :: st) h Q) : zV G y d pc lv (.ref a :: st) h Q :=
  zV_getfN k dec hl hk hc hkN hv h40 (by rw [jI_of (zI h a k)]; exact kk)
/-- a number gets a name -/
theorem zV.nm {e : Int} (k : ∀ z : Int, z = e → zV G y d pc lv (.int (jI z) :: st) h Q) : zV G y d pc lv (.int (jI e) :: st) h Q := k e rfl
theorem zV.eq {e e' : Int} (he : e = e') (k : zV G y d pc lv (.int (jI e') :: st) h Q) : zV G y d pc lv (.int (jI e) :: st) h Q := by rw [he]; exact k
end ZWT
/-- a truth as an int -/
def bI (p : Prop) [Decidable p] : Int := if p then 1 else 0
theorem bI_t {p : Prop} [Decidable p] (h : p) : bI p = 1 := if_pos h
theorem bI_f {p : Prop} [Decidable p] (h : ¬ p) : bI p = 0 := if_neg h
theorem bI_jr {p : Prop} [Decidable p] : jr (bI p) := by
  unfold bI
  split <;> exact ⟨by decide, by decide⟩
theorem bI_nar {p : Prop} [Decidable p] : narrow .boolean (.int (jI (bI p))) = .int (jI (bI p)) := by
  unfold bI
  split <;> rfl
theorem bI_congr {p q : Prop} [Decidable p] [Decidable q] (h : p ↔ q) : bI p = bI q := by
  unfold bI
  by_cases hp : p
  · rw [if_pos hp, if_pos (h.mp hp)]
  · rw [if_neg hp, if_neg (fun z => hp (h.mpr z))]
