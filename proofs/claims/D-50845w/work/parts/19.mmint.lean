/-! ===== MM: ints as whole numbers: jI z is the int z ===== -/
set_option maxRecDepth 100000
abbrev jI (z : Int) : Int32 := Int32.ofInt z
/-- the ints -/
def jr (z : Int) : Prop := -2147483648 ≤ z ∧ z ≤ 2147483647
theorem jI_toInt {z : Int} (h : jr z) : (jI z).toInt = z := Int32.toInt_ofInt_of_le h.1 (by have := h.2; omega)
theorem jI_of (x : Int32) : x = jI x.toInt := (Int32.ofInt_toInt x).symm
theorem jr_toInt (x : Int32) : jr x.toInt := ⟨Int32.le_toInt x, by have := Int32.toInt_lt x; omega⟩
theorem jI_nI (n : Nat) : nI n = jI (n : Int) := by
  show Int32.ofNat n = Int32.ofInt (n : Int)
  rfl
theorem jI_add (a b : Int) : jI a + jI b = jI (a + b) := (Int32.ofInt_add a b).symm
theorem jI_sub (a b : Int) : jI a - jI b = jI (a - b) := (Int32.ofInt_sub a b).symm
theorem jI_mul (a b : Int) : jI a * jI b = jI (a * b) := (Int32.ofInt_mul a b).symm
theorem jI_neg (a : Int) : -jI a = jI (-a) := (Int32.ofInt_neg a).symm
theorem jI_lt {a b : Int} (ha : jr a) (hb : jr b) : jI a < jI b ↔ a < b := by rw [Int32.lt_iff_toInt_lt, jI_toInt ha, jI_toInt hb]
theorem jI_le {a b : Int} (ha : jr a) (hb : jr b) : jI a ≤ jI b ↔ a ≤ b := by rw [Int32.le_iff_toInt_le, jI_toInt ha, jI_toInt hb]
theorem jI_eq {a b : Int} (ha : jr a) (hb : jr b) : jI a = jI b ↔ a = b := by
  constructor
  · intro h
    have := congrArg Int32.toInt h
    rwa [jI_toInt ha, jI_toInt hb] at this
  · intro h; rw [h]
theorem jI_0 : (0 : Int32) = jI 0 := rfl
theorem jI_clamp {n : Nat} (h : n < 2147483648) : (jI (n : Int)).toNatClampNeg = n := nI_clamp (n := n) h
theorem zIx.j {e : Int} {n j : Nat} (he : e = (j : Int)) (hj : j < n) (hn : n < 2147483648) : zIx (jI e) n j := by
  subst he
  exact zIx.of (i := jI (j : Int)) (jI_nI j).symm hj hn
theorem jI_div {a b : Int} (h0 : 0 ≤ a) (ha : jr a) (hb : 0 < b) (hb2 : jr b) : jI a / jI b = jI (a / b) := by
  obtain ⟨n, rfl⟩ := Int.eq_ofNat_of_zero_le h0
  obtain ⟨k, rfl⟩ := Int.eq_ofNat_of_zero_le (Int.le_of_lt hb)
  have h1 := ha.2
  have h2 := hb2.2
  have := pk_div (a := n) (d := k) (by omega) (by omega) (by omega)
  rw [jI_nI, jI_nI, jI_nI] at this
  rw [this]
  congr 1
theorem jI_rem {a b : Int} (h0 : 0 ≤ a) (ha : jr a) (hb : 0 < b) (hb2 : jr b) : jI a - jI a / jI b * jI b = jI (a % b) := by
  rw [jI_div h0 ha hb hb2, jI_mul, jI_sub]
  congr 1
  have := Int.emod_add_mul_ediv a b
  rw [Int.mul_comm]
  omega
section ZJ
variable {G : zG} {y : zY} {d pc : Nat} {lv : List (Nat × Value)} {st : List Value} {h : zH} {Q : zO → zH → Prop}
theorem zV_jbipush {n : Int} (dec : decode (yC y) pc = .ok (.bipush n, 2)) (hn : (Int8.ofInt n).toInt32 = jI n) (k : zV G y d (pc + 2) lv (.int (jI n) :: st) h Q) : zV G y d pc lv st h Q := zV_bipush dec (by rw [hn]; exact k)
theorem zV_jsipush {n : Int} (dec : decode (yC y) pc = .ok (.sipush n, 3)) (hn : (Int16.ofInt n).toInt32 = jI n) (k : zV G y d (pc + 3) lv (.int (jI n) :: st) h Q) : zV G y d pc lv st h Q := zV_sipush dec (by rw [hn]; exact k)
theorem zV_jldc {i : Nat} {v : Int32} (n : Int) (dec : decode (yC y) pc = .ok (.ldc i, 2)) (hc : Cond.constant (yN y).cls i v ∈ lw_all) (hn : v = jI n) (k : zV G y d (pc + 2) lv (.int (jI n) :: st) h Q) : zV G y d pc lv st h Q := zV_ldc dec hc (by rw [hn]; exact k)
theorem zV_jldcw {i : Nat} {v : Int32} (n : Int) (dec : decode (yC y) pc = .ok (.ldc_w i, 3)) (hc : Cond.constant (yN y).cls i v ∈ lw_all) (hn : v = jI n) (k : zV G y d (pc + 3) lv (.int (jI n) :: st) h Q) : zV G y d pc lv st h Q := zV_ldcw dec hc (by rw [hn]; exact k)
theorem zV_jadd {a b : Int} (dec : decode (yC y) pc = .ok (.iadd, 1)) (k : zV G y d (pc + 1) lv (.int (jI (a + b)) :: st) h Q) : zV G y d pc lv (.int (jI b) :: .int (jI a) :: st) h Q := zV_iadd dec (by rw [jI_add]; exact k)
theorem zV_jsub {a b : Int} (dec : decode (yC y) pc = .ok (.isub, 1)) (k : zV G y d (pc + 1) lv (.int (jI (a - b)) :: st) h Q) : zV G y d pc lv (.int (jI b) :: .int (jI a) :: st) h Q := zV_isub dec (by rw [jI_sub]; exact k)
theorem zV_jmul {a b : Int} (dec : decode (yC y) pc = .ok (.imul, 1)) (k : zV G y d (pc + 1) lv (.int (jI (a * b)) :: st) h Q) : zV G y d pc lv (.int (jI b) :: .int (jI a) :: st) h Q := zV_imul dec (by rw [jI_mul]; exact k)
theorem zV_jneg {a : Int} (dec : decode (yC y) pc = .ok (.ineg, 1)) (k : zV G y d (pc + 1) lv (.int (jI (-a)) :: st) h Q) : zV G y d pc lv (.int (jI a) :: st) h Q := zV_ineg dec (by rw [jI_neg]; exact k)
theorem zV_jdiv {a b : Int} (dec : decode (yC y) pc = .ok (.idiv, 1)) (h0 : 0 ≤ a) (ha : jr a) (hb : 0 < b) (hb2 : jr b) (k : zV G y d (pc + 1) lv (.int (jI (a / b)) :: st) h Q) : zV G y d pc lv (.int (jI b) :: .int (jI a) :: st) h Q :=
  zV_idiv dec (fun e => by rw [jI_0, jI_eq hb2 ⟨by decide, by decide⟩] at e; omega) (by rw [jI_div h0 ha hb hb2]; exact k)
theorem zV_jrem {a b : Int} (dec : decode (yC y) pc = .ok (.irem, 1)) (h0 : 0 ≤ a) (ha : jr a) (hb : 0 < b) (hb2 : jr b) (k : zV G y d (pc + 1) lv (.int (jI (a % b)) :: st) h Q) : zV G y d pc lv (.int (jI b) :: .int (jI a) :: st) h Q :=
  zV_irem dec (fun e => by rw [jI_0, jI_eq hb2 ⟨by decide, by decide⟩] at e; omega) (by rw [jI_rem h0 ha hb hb2]; exact k)
theorem zV_jinc {i : Nat} {n a : Int} {lv' : List (Nat × Value)} (dec : decode (yC y) pc = .ok (.iinc i n, 3)) (hg : zget lv i = some (.int (jI a))) (hb : i < yL y) (hk : zkeys lv = true) (hs : zset lv i (.int (jI (a + n))) = lv') (k : zV G y d (pc + 3) lv' st h Q) : zV G y d pc lv st h Q :=
  zV_iinc dec hg hb hk (by rw [show Int32.ofInt n = jI n from rfl, jI_add]; exact hs) k
/-- the value on top is another's -/
theorem zV.top {v w : Value} (e : v = w) (k : zV G y d pc lv (w :: st) h Q) : zV G y d pc lv (v :: st) h Q := by rw [e]; exact k
theorem zV.topI {x w : Int32} (e : x = w) (k : zV G y d pc lv (.int w :: st) h Q) : zV G y d pc lv (.int x :: st) h Q := by rw [e]; exact k
theorem zV.heap {h1 : zH} (e : h = h1) (k : zV G y d pc lv st h1 Q) : zV G y d pc lv st h Q := by rw [e]; exact k
theorem zV_jcmp_eq {a b : Int} {off : Int} (tgt : Nat) (dec : decode (yC y) pc = .ok (.if_icmp .eq off, 3)) (ht : (pc : Int) + off = (tgt : Int)) (ha : jr a) (hb : jr b) (kt : a = b → zV G y d tgt lv st h Q) (kf : ¬ a = b → zV G y d (pc + 3) lv st h Q) : zV G y d pc lv (.int (jI b) :: .int (jI a) :: st) h Q :=
  zV_icmp_eq tgt dec ht (fun c => kt (by simp only [jI_eq ha hb, jI_lt ha hb, jI_le ha hb, jI_lt hb ha, jI_le hb ha, Int.not_lt, Int.not_le, Classical.not_not] at c; omega)) (fun c => kf (by simp only [jI_eq ha hb, jI_lt ha hb, jI_le ha hb, jI_lt hb ha, jI_le hb ha, Int.not_lt, Int.not_le, Classical.not_not] at c; omega))
theorem zV_jif_eq {a : Int} {off : Int} (tgt : Nat) (dec : decode (yC y) pc = .ok (.ifCond .eq off, 3)) (ht : (pc : Int) + off = (tgt : Int)) (ha : jr a) (kt : a = 0 → zV G y d tgt lv st h Q) (kf : ¬ a = 0 → zV G y d (pc + 3) lv st h Q) : zV G y d pc lv (.int (jI a) :: st) h Q :=
  zV_if_eq tgt dec ht (fun c => kt (by have hb : jr 0 := ⟨by decide, by decide⟩; simp only [jI_0, jI_eq ha hb, jI_lt ha hb, jI_le ha hb, jI_lt hb ha, jI_le hb ha, Int.not_lt, Int.not_le, Classical.not_not] at c; omega)) (fun c => kf (by have hb : jr 0 := ⟨by decide, by decide⟩; simp only [jI_0, jI_eq ha hb, jI_lt ha hb, jI_le ha hb, jI_lt hb ha, jI_le hb ha, Int.not_lt, Int.not_le, Classical.not_not] at c; omega))
theorem zV_jcmp_ne {a b : Int} {off : Int} (tgt : Nat) (dec : decode (yC y) pc = .ok (.if_icmp .ne off, 3)) (ht : (pc : Int) + off = (tgt : Int)) (ha : jr a) (hb : jr b) (kt : ¬ a = b → zV G y d tgt lv st h Q) (kf : a = b → zV G y d (pc + 3) lv st h Q) : zV G y d pc lv (.int (jI b) :: .int (jI a) :: st) h Q :=
  zV_icmp_ne tgt dec ht (fun c => kt (by simp only [jI_eq ha hb, jI_lt ha hb, jI_le ha hb, jI_lt hb ha, jI_le hb ha, Int.not_lt, Int.not_le, Classical.not_not] at c; omega)) (fun c => kf (by simp only [jI_eq ha hb, jI_lt ha hb, jI_le ha hb, jI_lt hb ha, jI_le hb ha, Int.not_lt, Int.not_le, Classical.not_not] at c; omega))
theorem zV_jif_ne {a : Int} {off : Int} (tgt : Nat) (dec : decode (yC y) pc = .ok (.ifCond .ne off, 3)) (ht : (pc : Int) + off = (tgt : Int)) (ha : jr a) (kt : ¬ a = 0 → zV G y d tgt lv st h Q) (kf : a = 0 → zV G y d (pc + 3) lv st h Q) : zV G y d pc lv (.int (jI a) :: st) h Q :=
  zV_if_ne tgt dec ht (fun c => kt (by have hb : jr 0 := ⟨by decide, by decide⟩; simp only [jI_0, jI_eq ha hb, jI_lt ha hb, jI_le ha hb, jI_lt hb ha, jI_le hb ha, Int.not_lt, Int.not_le, Classical.not_not] at c; omega)) (fun c => kf (by have hb : jr 0 := ⟨by decide, by decide⟩; simp only [jI_0, jI_eq ha hb, jI_lt ha hb, jI_le ha hb, jI_lt hb ha, jI_le hb ha, Int.not_lt, Int.not_le, Classical.not_not] at c; omega))
theorem zV_jcmp_lt {a b : Int} {off : Int} (tgt : Nat) (dec : decode (yC y) pc = .ok (.if_icmp .lt off, 3)) (ht : (pc : Int) + off = (tgt : Int)) (ha : jr a) (hb : jr b) (kt : a < b → zV G y d tgt lv st h Q) (kf : b ≤ a → zV G y d (pc + 3) lv st h Q) : zV G y d pc lv (.int (jI b) :: .int (jI a) :: st) h Q :=
  zV_icmp_lt tgt dec ht (fun c => kt (by simp only [jI_eq ha hb, jI_lt ha hb, jI_le ha hb, jI_lt hb ha, jI_le hb ha, Int.not_lt, Int.not_le, Classical.not_not] at c; omega)) (fun c => kf (by simp only [jI_eq ha hb, jI_lt ha hb, jI_le ha hb, jI_lt hb ha, jI_le hb ha, Int.not_lt, Int.not_le, Classical.not_not] at c; omega))
theorem zV_jif_lt {a : Int} {off : Int} (tgt : Nat) (dec : decode (yC y) pc = .ok (.ifCond .lt off, 3)) (ht : (pc : Int) + off = (tgt : Int)) (ha : jr a) (kt : a < 0 → zV G y d tgt lv st h Q) (kf : 0 ≤ a → zV G y d (pc + 3) lv st h Q) : zV G y d pc lv (.int (jI a) :: st) h Q :=
  zV_if_lt tgt dec ht (fun c => kt (by have hb : jr 0 := ⟨by decide, by decide⟩; simp only [jI_0, jI_eq ha hb, jI_lt ha hb, jI_le ha hb, jI_lt hb ha, jI_le hb ha, Int.not_lt, Int.not_le, Classical.not_not] at c; omega)) (fun c => kf (by have hb : jr 0 := ⟨by decide, by decide⟩; simp only [jI_0, jI_eq ha hb, jI_lt ha hb, jI_le ha hb, jI_lt hb ha, jI_le hb ha, Int.not_lt, Int.not_le, Classical.not_not] at c; omega))
theorem zV_jcmp_ge {a b : Int} {off : Int} (tgt : Nat) (dec : decode (yC y) pc = .ok (.if_icmp .ge off, 3)) (ht : (pc : Int) + off = (tgt : Int)) (ha : jr a) (hb : jr b) (kt : b ≤ a → zV G y d tgt lv st h Q) (kf : a < b → zV G y d (pc + 3) lv st h Q) : zV G y d pc lv (.int (jI b) :: .int (jI a) :: st) h Q :=
  zV_icmp_ge tgt dec ht (fun c => kt (by simp only [jI_eq ha hb, jI_lt ha hb, jI_le ha hb, jI_lt hb ha, jI_le hb ha, Int.not_lt, Int.not_le, Classical.not_not] at c; omega)) (fun c => kf (by simp only [jI_eq ha hb, jI_lt ha hb, jI_le ha hb, jI_lt hb ha, jI_le hb ha, Int.not_lt, Int.not_le, Classical.not_not] at c; omega))
theorem zV_jif_ge {a : Int} {off : Int} (tgt : Nat) (dec : decode (yC y) pc = .ok (.ifCond .ge off, 3)) (ht : (pc : Int) + off = (tgt : Int)) (ha : jr a) (kt : 0 ≤ a → zV G y d tgt lv st h Q) (kf : a < 0 → zV G y d (pc + 3) lv st h Q) : zV G y d pc lv (.int (jI a) :: st) h Q :=
  zV_if_ge tgt dec ht (fun c => kt (by have hb : jr 0 := ⟨by decide, by decide⟩; simp only [jI_0, jI_eq ha hb, jI_lt ha hb, jI_le ha hb, jI_lt hb ha, jI_le hb ha, Int.not_lt, Int.not_le, Classical.not_not] at c; omega)) (fun c => kf (by have hb : jr 0 := ⟨by decide, by decide⟩; simp only [jI_0, jI_eq ha hb, jI_lt ha hb, jI_le ha hb, jI_lt hb ha, jI_le hb ha, Int.not_lt, Int.not_le, Classical.not_not] at c; omega))
theorem zV_jcmp_gt {a b : Int} {off : Int} (tgt : Nat) (dec : decode (yC y) pc = .ok (.if_icmp .gt off, 3)) (ht : (pc : Int) + off = (tgt : Int)) (ha : jr a) (hb : jr b) (kt : b < a → zV G y d tgt lv st h Q) (kf : a ≤ b → zV G y d (pc + 3) lv st h Q) : zV G y d pc lv (.int (jI b) :: .int (jI a) :: st) h Q :=
  zV_icmp_gt tgt dec ht (fun c => kt (by simp only [jI_eq ha hb, jI_lt ha hb, jI_le ha hb, jI_lt hb ha, jI_le hb ha, Int.not_lt, Int.not_le, Classical.not_not] at c; omega)) (fun c => kf (by simp only [jI_eq ha hb, jI_lt ha hb, jI_le ha hb, jI_lt hb ha, jI_le hb ha, Int.not_lt, Int.not_le, Classical.not_not] at c; omega))
theorem zV_jif_gt {a : Int} {off : Int} (tgt : Nat) (dec : decode (yC y) pc = .ok (.ifCond .gt off, 3)) (ht : (pc : Int) + off = (tgt : Int)) (ha : jr a) (kt : 0 < a → zV G y d tgt lv st h Q) (kf : a ≤ 0 → zV G y d (pc + 3) lv st h Q) : zV G y d pc lv (.int (jI a) :: st) h Q :=
  zV_if_gt tgt dec ht (fun c => kt (by have hb : jr 0 := ⟨by decide, by decide⟩; simp only [jI_0, jI_eq ha hb, jI_lt ha hb, jI_le ha hb, jI_lt hb ha, jI_le hb ha, Int.not_lt, Int.not_le, Classical.not_not] at c; omega)) (fun c => kf (by have hb : jr 0 := ⟨by decide, by decide⟩; simp only [jI_0, jI_eq ha hb, jI_lt ha hb, jI_le ha hb, jI_lt hb ha, jI_le hb ha, Int.not_lt, Int.not_le, Classical.not_not] at c; omega))
theorem zV_jcmp_le {a b : Int} {off : Int} (tgt : Nat) (dec : decode (yC y) pc = .ok (.if_icmp .le off, 3)) (ht : (pc : Int) + off = (tgt : Int)) (ha : jr a) (hb : jr b) (kt : a ≤ b → zV G y d tgt lv st h Q) (kf : b < a → zV G y d (pc + 3) lv st h Q) : zV G y d pc lv (.int (jI b) :: .int (jI a) :: st) h Q :=
  zV_icmp_le tgt dec ht (fun c => kt (by simp only [jI_eq ha hb, jI_lt ha hb, jI_le ha hb, jI_lt hb ha, jI_le hb ha, Int.not_lt, Int.not_le, Classical.not_not] at c; omega)) (fun c => kf (by simp only [jI_eq ha hb, jI_lt ha hb, jI_le ha hb, jI_lt hb ha, jI_le hb ha, Int.not_lt, Int.not_le, Classical.not_not] at c; omega))
theorem zV_jif_le {a : Int} {off : Int} (tgt : Nat) (dec : decode (yC y) pc = .ok (.ifCond .le off, 3)) (ht : (pc : Int) + off = (tgt : Int)) (ha : jr a) (kt : a ≤ 0 → zV G y d tgt lv st h Q) (kf : 0 < a → zV G y d (pc + 3) lv st h Q) : zV G y d pc lv (.int (jI a) :: st) h Q :=
  zV_if_le tgt dec ht (fun c => kt (by have hb : jr 0 := ⟨by decide, by decide⟩; simp only [jI_0, jI_eq ha hb, jI_lt ha hb, jI_le ha hb, jI_lt hb ha, jI_le hb ha, Int.not_lt, Int.not_le, Classical.not_not] at c; omega)) (fun c => kf (by have hb : jr 0 := ⟨by decide, by decide⟩; simp only [jI_0, jI_eq ha hb, jI_lt ha hb, jI_le ha hb, jI_lt hb ha, jI_le hb ha, Int.not_lt, Int.not_le, Classical.not_not] at c; omega))
theorem zV_jiald {a : Nat} {e : Int} (j n : Nat) (dec : decode (yC y) pc = .ok (.iaload, 1)) (hk : zK h a = 50) (hz : zZ h a = n) (he : e = (j : Int)) (hj : j < n) (hn : n < 2147483648) (kk : zV G y d (pc + 1) lv (.int (zI h a j) :: st) h Q) : zV G y d pc lv (.int (jI e) :: .ref a :: st) h Q := zV_iald j dec hk (zIx.j he (by rw [hz]; exact hj) (by rw [hz]; exact hn)) kk
theorem zV_jbald {a : Nat} {e : Int} (j n : Nat) (dec : decode (yC y) pc = .ok (.baload, 1)) (hk : zK h a = 51) (hz : zZ h a = n) (he : e = (j : Int)) (hj : j < n) (hn : n < 2147483648) (kk : zV G y d (pc + 1) lv (.int (zI h a j) :: st) h Q) : zV G y d pc lv (.int (jI e) :: .ref a :: st) h Q := zV_bald j dec hk (zIx.j he (by rw [hz]; exact hj) (by rw [hz]; exact hn)) kk
theorem zV_jzald {a : Nat} {e : Int} (j n : Nat) (dec : decode (yC y) pc = .ok (.baload, 1)) (hk : zK h a = 52) (hz : zZ h a = n) (he : e = (j : Int)) (hj : j < n) (hn : n < 2147483648) (kk : zV G y d (pc + 1) lv (.int (zI h a j) :: st) h Q) : zV G y d pc lv (.int (jI e) :: .ref a :: st) h Q := zV_zald j dec hk (zIx.j he (by rw [hz]; exact hj) (by rw [hz]; exact hn)) kk
theorem zV_jlald {a : Nat} {e : Int} (j n : Nat) (dec : decode (yC y) pc = .ok (.laload, 1)) (hk : zK h a = 53) (hz : zZ h a = n) (he : e = (j : Int)) (hj : j < n) (hn : n < 2147483648) (kk : zV G y d (pc + 1) lv (.long (zL h a j) :: st) h Q) : zV G y d pc lv (.int (jI e) :: .ref a :: st) h Q := zV_lald j dec hk (zIx.j he (by rw [hz]; exact hj) (by rw [hz]; exact hn)) kk
theorem zV_jdald {a : Nat} {e : Int} (j n : Nat) (dec : decode (yC y) pc = .ok (.daload, 1)) (hk : zK h a = 54) (hz : zZ h a = n) (he : e = (j : Int)) (hj : j < n) (hn : n < 2147483648) (kk : zV G y d (pc + 1) lv (.double (zD h a j) :: st) h Q) : zV G y d pc lv (.int (jI e) :: .ref a :: st) h Q := zV_dald j dec hk (zIx.j he (by rw [hz]; exact hj) (by rw [hz]; exact hn)) kk
theorem zV_jaald {a t : Nat} {e : Int} {v : Value} (j n : Nat) (dec : decode (yC y) pc = .ok (.aaload, 1)) (hk : zK h a = 50 + t) (ht : t = 5 ∨ t = 6) (hz : zZ h a = n) (he : e = (j : Int)) (hj : j < n) (hn : n < 2147483648) (hv : va_rf (zR h a j) = v) (kk : zV G y d (pc + 1) lv (v :: st) h Q) : zV G y d pc lv (.int (jI e) :: .ref a :: st) h Q := zV_aald j dec hk ht (zIx.j he (by rw [hz]; exact hj) (by rw [hz]; exact hn)) hv kk
theorem zV_jiast {a : Nat} {e : Int} {x : Int32} (j n : Nat) (dec : decode (yC y) pc = .ok (.iastore, 1)) (hk : zK h a = 50) (ha : 64 ≤ a) (hz : zZ h a = n) (he : e = (j : Int)) (hj : j < n) (hn : n < 2147483648) (kk : zV G y d (pc + 1) lv st (sI h a j x) Q) : zV G y d pc lv (.int x :: .int (jI e) :: .ref a :: st) h Q := zV_iast j dec hk ha (zIx.j he (by rw [hz]; exact hj) (by rw [hz]; exact hn)) kk
theorem zV_jbast {a : Nat} {e : Int} {x : Int32} (j n : Nat) (dec : decode (yC y) pc = .ok (.bastore, 1)) (hk : zK h a = 51) (ha : 64 ≤ a) (hz : zZ h a = n) (he : e = (j : Int)) (hj : j < n) (hn : n < 2147483648) (kk : zV G y d (pc + 1) lv st (sI h a j x.toInt8.toInt32) Q) : zV G y d pc lv (.int x :: .int (jI e) :: .ref a :: st) h Q := zV_bast j dec hk ha (zIx.j he (by rw [hz]; exact hj) (by rw [hz]; exact hn)) kk
theorem zV_jzast {a : Nat} {e : Int} {x : Int32} (j n : Nat) (dec : decode (yC y) pc = .ok (.bastore, 1)) (hk : zK h a = 52) (ha : 64 ≤ a) (hz : zZ h a = n) (he : e = (j : Int)) (hj : j < n) (hn : n < 2147483648) (hx : narrow .boolean (.int x) = .int x) (kk : zV G y d (pc + 1) lv st (sI h a j x) Q) : zV G y d pc lv (.int x :: .int (jI e) :: .ref a :: st) h Q := zV_zast j dec hk ha (zIx.j he (by rw [hz]; exact hj) (by rw [hz]; exact hn)) hx kk
theorem zV_jlast {a : Nat} {e : Int} {x : Int64} (j n : Nat) (dec : decode (yC y) pc = .ok (.lastore, 1)) (hk : zK h a = 53) (ha : 64 ≤ a) (hz : zZ h a = n) (he : e = (j : Int)) (hj : j < n) (hn : n < 2147483648) (kk : zV G y d (pc + 1) lv st (sL h a j x) Q) : zV G y d pc lv (.long x :: .int (jI e) :: .ref a :: st) h Q := zV_last j dec hk ha (zIx.j he (by rw [hz]; exact hj) (by rw [hz]; exact hn)) kk
theorem zV_jdast {a : Nat} {e : Int} {x : UInt64} (j n : Nat) (dec : decode (yC y) pc = .ok (.dastore, 1)) (hk : zK h a = 54) (ha : 64 ≤ a) (hz : zZ h a = n) (he : e = (j : Int)) (hj : j < n) (hn : n < 2147483648) (kk : zV G y d (pc + 1) lv st (sD h a j x) Q) : zV G y d pc lv (.double x :: .int (jI e) :: .ref a :: st) h Q := zV_dast j dec hk ha (zIx.j he (by rw [hz]; exact hj) (by rw [hz]; exact hn)) kk
theorem zV_jnewa {t : Nat} {e : Int} {atype : ArrayType} (n : Nat) (dec : decode (yC y) pc = .ok (.newarray atype, 2)) (hty : newarray.typeOf atype = zat t) (ht : t < 5) (hw : Cond.arrayClass (zat t) ∈ lw_all) (he : e = (n : Int)) (hn : n < 100000) (h64 : 64 ≤ zN h) (kk : zV G y d (pc + 2) lv (.ref (zN h) :: st) (sN h (50 + t) n n) Q) : zV G y d pc lv (.int (jI e) :: st) h Q := zV_newa n dec hty ht hw (by rw [he, jI_nI]) hn h64 kk
theorem zV_janew {t i : Nat} {e : Int} {C : String} (n : Nat) (dec : decode (yC y) pc = .ok (.anewarray i, 3)) (hC : zat t = .object C) (ht : t = 5 ∨ t = 6) (hl : Cond.classLink (yN y).cls i C ∈ lw_all) (he : e = (n : Int)) (hn : n < 100000) (h64 : 64 ≤ zN h) (kk : zV G y d (pc + 3) lv (.ref (zN h) :: st) (sN h (50 + t) n n) Q) : zV G y d pc lv (.int (jI e) :: st) h Q := zV_anew n dec hC ht hl (by rw [he, jI_nI]) hn h64 kk
theorem zV_jalen {a t : Nat} (n : Nat) (dec : decode (yC y) pc = .ok (.arraylength, 1)) (hk : zK h a = 50 + t) (ht : t < 7) (hz : zZ h a = n) (kk : zV G y d (pc + 1) lv (.int (jI (n : Int)) :: st) h Q) : zV G y d pc lv (.ref a :: st) h Q := zV_alen dec hk ht (by rw [hz, jI_nI]; exact kk)
theorem zV_jtableOut {dflt lo hi : Int} {offs : Array Int} {len : Nat} {a : Int} (tgt : Nat) (dec : decode (yC y) pc = .ok (.tableswitch dflt lo hi offs, len)) (hr : jr a) (hx : a < lo ∨ hi < a) (ht : (pc : Int) + dflt = (tgt : Int)) (k : zV G y d tgt lv st h Q) : zV G y d pc lv (.int (jI a) :: st) h Q := zV_tableOut tgt dec (by rw [jI_toInt hr]; exact hx) ht k
theorem zV_jtableIn {dflt lo hi : Int} {offs : Array Int} {len : Nat} {a : Int} {off : Int} (j tgt : Nat) (dec : decode (yC y) pc = .ok (.tableswitch dflt lo hi offs, len)) (hr : jr a) (hj : a = lo + (j : Int)) (hh : a ≤ hi) (ho : offs[j]? = some off) (ht : (pc : Int) + off = (tgt : Int)) (k : zV G y d tgt lv st h Q) : zV G y d pc lv (.int (jI a) :: st) h Q :=
  zV_tableIn tgt dec (by rw [jI_toInt hr]; omega) (by rw [jI_toInt hr]; omega) (by rw [jI_toInt hr, show (a - lo).toNat = j by omega]; exact ho) ht k
end ZJ
/-- an answer that leaves the heap as it is -/
def zJ (h : zH) (v : Option Value) : zO → zH → Prop := fun r h' => r = .inl v ∧ h' = h
