/-! ===== THE MODEL, 1: its shape; small readers (printed by gen/m1.py) ===== -/
set_option maxRecDepth 100000
/-- the ints of a heap, new -/
def zsI (h : zH) (f : Nat → Nat → Int32) : zH := (zK h, zZ h, f, zR h, zL h, zD h, zN h, zC h, zU h)
abbrev gI (h : zH) (a j : Nat) : Int := (zI h a j).toInt
/-- the model at o, its arrays behind it: s, draft, aside, kept, past, longest, rest, fore, from, length, distance, input, isTold, done, output -/
def MdL (h : zH) (o : Nat) : Prop := 64 ≤ o ∧ o + 16 ≤ zN h ∧ zK h o = 3 ∧ zK h (o + 1) = 50 ∧ zZ h (o + 1) = 171 ∧ zR h o 1 = some (o + 1) ∧ zK h (o + 2) = 50 ∧ zZ h (o + 2) = 171 ∧ zR h o 2 = some (o + 2) ∧ zK h (o + 3) = 50 ∧ zZ h (o + 3) = 171 ∧ zR h o 3 = some (o + 3) ∧ zK h (o + 4) = 50 ∧ zZ h (o + 4) = 171 ∧ zR h o 4 = some (o + 4) ∧ zK h (o + 5) = 50 ∧ zZ h (o + 5) = 1368 ∧ zR h o 5 = some (o + 5) ∧ zK h (o + 6) = 50 ∧ zZ h (o + 6) = 2112 ∧ zR h o 8 = some (o + 6) ∧ zK h (o + 7) = 50 ∧ zZ h (o + 7) = 4290 ∧ zR h o 9 = some (o + 7) ∧ zK h (o + 8) = 50 ∧ zZ h (o + 8) = 4290 ∧ zR h o 10 = some (o + 8) ∧ zK h (o + 9) = 50 ∧ zZ h (o + 9) = 64 ∧ zR h o 11 = some (o + 9) ∧ zK h (o + 10) = 50 ∧ zZ h (o + 10) = 64 ∧ zR h o 12 = some (o + 10) ∧ zK h (o + 11) = 50 ∧ zZ h (o + 11) = 64 ∧ zR h o 13 = some (o + 11) ∧ zK h (o + 12) = 51 ∧ zZ h (o + 12) = 500 ∧ zR h o 15 = some (o + 12) ∧ zK h (o + 13) = 52 ∧ zZ h (o + 13) = 36 ∧ zR h o 23 = some (o + 13) ∧ zK h (o + 14) = 50 ∧ zZ h (o + 14) = 64 ∧ zR h o 24 = some (o + 14) ∧ zK h (o + 15) = 51 ∧ zZ h (o + 15) = 600 ∧ zR h o 25 = some (o + 15)
theorem md_ge {h : zH} {o : Nat} (x : MdL h o) : 64 ≤ o := x.1
theorem md_le {h : zH} {o : Nat} (x : MdL h o) : o + 16 ≤ zN h := x.2.1
theorem md_k {h : zH} {o : Nat} (x : MdL h o) : zK h o = 3 := x.2.2.1
theorem md_k_s {h : zH} {o : Nat} (x : MdL h o) : zK h (o + 1) = 50 := x.2.2.2.1
theorem md_z_s {h : zH} {o : Nat} (x : MdL h o) : zZ h (o + 1) = 171 := x.2.2.2.2.1
theorem md_r_s {h : zH} {o : Nat} (x : MdL h o) : zR h o 1 = some (o + 1) := x.2.2.2.2.2.1
theorem md_k_draft {h : zH} {o : Nat} (x : MdL h o) : zK h (o + 2) = 50 := x.2.2.2.2.2.2.1
theorem md_z_draft {h : zH} {o : Nat} (x : MdL h o) : zZ h (o + 2) = 171 := x.2.2.2.2.2.2.2.1
theorem md_r_draft {h : zH} {o : Nat} (x : MdL h o) : zR h o 2 = some (o + 2) := x.2.2.2.2.2.2.2.2.1
theorem md_k_aside {h : zH} {o : Nat} (x : MdL h o) : zK h (o + 3) = 50 := x.2.2.2.2.2.2.2.2.2.1
theorem md_z_aside {h : zH} {o : Nat} (x : MdL h o) : zZ h (o + 3) = 171 := x.2.2.2.2.2.2.2.2.2.2.1
theorem md_r_aside {h : zH} {o : Nat} (x : MdL h o) : zR h o 3 = some (o + 3) := x.2.2.2.2.2.2.2.2.2.2.2.1
theorem md_k_kept {h : zH} {o : Nat} (x : MdL h o) : zK h (o + 4) = 50 := x.2.2.2.2.2.2.2.2.2.2.2.2.1
theorem md_z_kept {h : zH} {o : Nat} (x : MdL h o) : zZ h (o + 4) = 171 := x.2.2.2.2.2.2.2.2.2.2.2.2.2.1
theorem md_r_kept {h : zH} {o : Nat} (x : MdL h o) : zR h o 4 = some (o + 4) := x.2.2.2.2.2.2.2.2.2.2.2.2.2.2.1
theorem md_k_past {h : zH} {o : Nat} (x : MdL h o) : zK h (o + 5) = 50 := x.2.2.2.2.2.2.2.2.2.2.2.2.2.2.2.1
theorem md_z_past {h : zH} {o : Nat} (x : MdL h o) : zZ h (o + 5) = 1368 := x.2.2.2.2.2.2.2.2.2.2.2.2.2.2.2.2.1
theorem md_r_past {h : zH} {o : Nat} (x : MdL h o) : zR h o 5 = some (o + 5) := x.2.2.2.2.2.2.2.2.2.2.2.2.2.2.2.2.2.1
theorem md_k_longest {h : zH} {o : Nat} (x : MdL h o) : zK h (o + 6) = 50 := x.2.2.2.2.2.2.2.2.2.2.2.2.2.2.2.2.2.2.1
theorem md_z_longest {h : zH} {o : Nat} (x : MdL h o) : zZ h (o + 6) = 2112 := x.2.2.2.2.2.2.2.2.2.2.2.2.2.2.2.2.2.2.2.1
theorem md_r_longest {h : zH} {o : Nat} (x : MdL h o) : zR h o 8 = some (o + 6) := x.2.2.2.2.2.2.2.2.2.2.2.2.2.2.2.2.2.2.2.2.1
theorem md_k_rest {h : zH} {o : Nat} (x : MdL h o) : zK h (o + 7) = 50 := x.2.2.2.2.2.2.2.2.2.2.2.2.2.2.2.2.2.2.2.2.2.1
theorem md_z_rest {h : zH} {o : Nat} (x : MdL h o) : zZ h (o + 7) = 4290 := x.2.2.2.2.2.2.2.2.2.2.2.2.2.2.2.2.2.2.2.2.2.2.1
theorem md_r_rest {h : zH} {o : Nat} (x : MdL h o) : zR h o 9 = some (o + 7) := x.2.2.2.2.2.2.2.2.2.2.2.2.2.2.2.2.2.2.2.2.2.2.2.1
theorem md_k_fore {h : zH} {o : Nat} (x : MdL h o) : zK h (o + 8) = 50 := x.2.2.2.2.2.2.2.2.2.2.2.2.2.2.2.2.2.2.2.2.2.2.2.2.1
theorem md_z_fore {h : zH} {o : Nat} (x : MdL h o) : zZ h (o + 8) = 4290 := x.2.2.2.2.2.2.2.2.2.2.2.2.2.2.2.2.2.2.2.2.2.2.2.2.2.1
theorem md_r_fore {h : zH} {o : Nat} (x : MdL h o) : zR h o 10 = some (o + 8) := x.2.2.2.2.2.2.2.2.2.2.2.2.2.2.2.2.2.2.2.2.2.2.2.2.2.2.1
theorem md_k_from {h : zH} {o : Nat} (x : MdL h o) : zK h (o + 9) = 50 := x.2.2.2.2.2.2.2.2.2.2.2.2.2.2.2.2.2.2.2.2.2.2.2.2.2.2.2.1
theorem md_z_from {h : zH} {o : Nat} (x : MdL h o) : zZ h (o + 9) = 64 := x.2.2.2.2.2.2.2.2.2.2.2.2.2.2.2.2.2.2.2.2.2.2.2.2.2.2.2.2.1
theorem md_r_from {h : zH} {o : Nat} (x : MdL h o) : zR h o 11 = some (o + 9) := x.2.2.2.2.2.2.2.2.2.2.2.2.2.2.2.2.2.2.2.2.2.2.2.2.2.2.2.2.2.1
theorem md_k_length {h : zH} {o : Nat} (x : MdL h o) : zK h (o + 10) = 50 := x.2.2.2.2.2.2.2.2.2.2.2.2.2.2.2.2.2.2.2.2.2.2.2.2.2.2.2.2.2.2.1
theorem md_z_length {h : zH} {o : Nat} (x : MdL h o) : zZ h (o + 10) = 64 := x.2.2.2.2.2.2.2.2.2.2.2.2.2.2.2.2.2.2.2.2.2.2.2.2.2.2.2.2.2.2.2.1
theorem md_r_length {h : zH} {o : Nat} (x : MdL h o) : zR h o 12 = some (o + 10) := x.2.2.2.2.2.2.2.2.2.2.2.2.2.2.2.2.2.2.2.2.2.2.2.2.2.2.2.2.2.2.2.2.1
theorem md_k_distance {h : zH} {o : Nat} (x : MdL h o) : zK h (o + 11) = 50 := x.2.2.2.2.2.2.2.2.2.2.2.2.2.2.2.2.2.2.2.2.2.2.2.2.2.2.2.2.2.2.2.2.2.1
theorem md_z_distance {h : zH} {o : Nat} (x : MdL h o) : zZ h (o + 11) = 64 := x.2.2.2.2.2.2.2.2.2.2.2.2.2.2.2.2.2.2.2.2.2.2.2.2.2.2.2.2.2.2.2.2.2.2.1
theorem md_r_distance {h : zH} {o : Nat} (x : MdL h o) : zR h o 13 = some (o + 11) := x.2.2.2.2.2.2.2.2.2.2.2.2.2.2.2.2.2.2.2.2.2.2.2.2.2.2.2.2.2.2.2.2.2.2.2.1
theorem md_k_input {h : zH} {o : Nat} (x : MdL h o) : zK h (o + 12) = 51 := x.2.2.2.2.2.2.2.2.2.2.2.2.2.2.2.2.2.2.2.2.2.2.2.2.2.2.2.2.2.2.2.2.2.2.2.2.1
theorem md_z_input {h : zH} {o : Nat} (x : MdL h o) : zZ h (o + 12) = 500 := x.2.2.2.2.2.2.2.2.2.2.2.2.2.2.2.2.2.2.2.2.2.2.2.2.2.2.2.2.2.2.2.2.2.2.2.2.2.1
theorem md_r_input {h : zH} {o : Nat} (x : MdL h o) : zR h o 15 = some (o + 12) := x.2.2.2.2.2.2.2.2.2.2.2.2.2.2.2.2.2.2.2.2.2.2.2.2.2.2.2.2.2.2.2.2.2.2.2.2.2.2.1
theorem md_k_isTold {h : zH} {o : Nat} (x : MdL h o) : zK h (o + 13) = 52 := x.2.2.2.2.2.2.2.2.2.2.2.2.2.2.2.2.2.2.2.2.2.2.2.2.2.2.2.2.2.2.2.2.2.2.2.2.2.2.2.1
theorem md_z_isTold {h : zH} {o : Nat} (x : MdL h o) : zZ h (o + 13) = 36 := x.2.2.2.2.2.2.2.2.2.2.2.2.2.2.2.2.2.2.2.2.2.2.2.2.2.2.2.2.2.2.2.2.2.2.2.2.2.2.2.2.1
theorem md_r_isTold {h : zH} {o : Nat} (x : MdL h o) : zR h o 23 = some (o + 13) := x.2.2.2.2.2.2.2.2.2.2.2.2.2.2.2.2.2.2.2.2.2.2.2.2.2.2.2.2.2.2.2.2.2.2.2.2.2.2.2.2.2.1
theorem md_k_done {h : zH} {o : Nat} (x : MdL h o) : zK h (o + 14) = 50 := x.2.2.2.2.2.2.2.2.2.2.2.2.2.2.2.2.2.2.2.2.2.2.2.2.2.2.2.2.2.2.2.2.2.2.2.2.2.2.2.2.2.2.1
theorem md_z_done {h : zH} {o : Nat} (x : MdL h o) : zZ h (o + 14) = 64 := x.2.2.2.2.2.2.2.2.2.2.2.2.2.2.2.2.2.2.2.2.2.2.2.2.2.2.2.2.2.2.2.2.2.2.2.2.2.2.2.2.2.2.2.1
theorem md_r_done {h : zH} {o : Nat} (x : MdL h o) : zR h o 24 = some (o + 14) := x.2.2.2.2.2.2.2.2.2.2.2.2.2.2.2.2.2.2.2.2.2.2.2.2.2.2.2.2.2.2.2.2.2.2.2.2.2.2.2.2.2.2.2.2.1
theorem md_k_output {h : zH} {o : Nat} (x : MdL h o) : zK h (o + 15) = 51 := x.2.2.2.2.2.2.2.2.2.2.2.2.2.2.2.2.2.2.2.2.2.2.2.2.2.2.2.2.2.2.2.2.2.2.2.2.2.2.2.2.2.2.2.2.2.1
theorem md_z_output {h : zH} {o : Nat} (x : MdL h o) : zZ h (o + 15) = 600 := x.2.2.2.2.2.2.2.2.2.2.2.2.2.2.2.2.2.2.2.2.2.2.2.2.2.2.2.2.2.2.2.2.2.2.2.2.2.2.2.2.2.2.2.2.2.2.1
theorem md_r_output {h : zH} {o : Nat} (x : MdL h o) : zR h o 25 = some (o + 15) := x.2.2.2.2.2.2.2.2.2.2.2.2.2.2.2.2.2.2.2.2.2.2.2.2.2.2.2.2.2.2.2.2.2.2.2.2.2.2.2.2.2.2.2.2.2.2.2
section M1
variable {G : zG} {h : zH} {o : Nat} {P : pRow}
theorem c_X4_lesser (a b : Int) (ha : jr a) (hb : jr b) : zM G zX4_lesser 0 [.int (jI a), .int (jI b)] h (zJ h (some (.int (jI (min a b))))) := by
  have ha1 := ha.1; have ha2 := ha.2; have hb1 := hb.1; have hb2 := hb.2
  refine zM.ofV (lv := [(0, .int (jI (a))), (1, .int (jI (b)))]) (by decide +kernel) (Nat.le_of_ble_eq_true rfl) rfl ?_
  refine zV_iload_n 0 dX4_lesser_0 rfl rfl ?_
  refine zV_iload_n 1 dX4_lesser_1 rfl rfl ?_
  refine zV_jcmp_ge 9 dX4_lesser_2 rfl ⟨by omega, by omega⟩ ⟨by omega, by omega⟩ (fun c => ?_) (fun c => ?_)
  · refine zV_iload_n 1 dX4_lesser_9 rfl rfl ?_
    exact zV_ireturn dX4_lesser_10 rfl rfl ⟨by rw [Int.min_eq_right c], rfl⟩
  · refine zV_iload_n 0 dX4_lesser_5 rfl rfl ?_
    refine zV_goto 10 dX4_lesser_6 rfl ?_
    exact zV_ireturn dX4_lesser_10 rfl rfl ⟨by rw [Int.min_eq_left (Int.le_of_lt c)], rfl⟩
theorem c_X4_larger (a b : Int) (ha : jr a) (hb : jr b) : zM G zX4_larger 0 [.int (jI a), .int (jI b)] h (zJ h (some (.int (jI (max a b))))) := by
  have ha1 := ha.1; have ha2 := ha.2; have hb1 := hb.1; have hb2 := hb.2
  refine zM.ofV (lv := [(0, .int (jI (a))), (1, .int (jI (b)))]) (by decide +kernel) (Nat.le_of_ble_eq_true rfl) rfl ?_
  refine zV_iload_n 0 dX4_larger_0 rfl rfl ?_
  refine zV_iload_n 1 dX4_larger_1 rfl rfl ?_
  refine zV_jcmp_le 9 dX4_larger_2 rfl ⟨by omega, by omega⟩ ⟨by omega, by omega⟩ (fun c => ?_) (fun c => ?_)
  · refine zV_iload_n 1 dX4_larger_9 rfl rfl ?_
    exact zV_ireturn dX4_larger_10 rfl rfl ⟨by rw [Int.max_eq_right c], rfl⟩
  · refine zV_iload_n 0 dX4_larger_5 rfl rfl ?_
    refine zV_goto 10 dX4_larger_6 rfl ?_
    exact zV_ireturn dX4_larger_10 rfl rfl ⟨by rw [Int.max_eq_left (Int.le_of_lt c)], rfl⟩
theorem c_X4_many (hM : MdL h o) (hP : gI h (o + 1) = P) : zM G zX4_many 0 [.ref o] h (zJ h (some (.int (jI (P 0))))) := by
  refine zM.ofV (lv := [(0, .ref o)]) (by decide +kernel) (Nat.le_of_ble_eq_true rfl) rfl ?_
  refine zV_aload_n 0 dX4_many_0 rfl rfl (Or.inr ⟨_, rfl⟩) ?_
  refine zV_getf (v := .ref (o + 1)) (ci := 3) (q := (RX4, TX4, 27)) 1 dX4_many_1 q1918 (md_k hM) rfl (by decide) (congrArg va_rf (md_r_s hM)) (by decide) ?_
  refine zV_iconst (n := 0) dX4_many_4 ?_
  refine zV_tiald 0 171 dX4_many_5 (md_k_s hM) (md_z_s hM) (by omega) (by omega) (by omega) ?_
  refine zV.eq (congrFun hP 0) ?_
  exact zV_ireturn dX4_many_6 rfl rfl ⟨rfl, rfl⟩
theorem c_X4_letter (hM : MdL h o) (hP : gI h (o + 1) = P) (p : Nat) (hp : p < 128) : zM G zX4_letter 0 [.ref o, .int (jI (p : Int))] h (zJ h (some (.int (jI (P (p + 43)))))) := by
  refine zM.ofV (lv := [(0, .ref o), (1, .int (jI ((p : Int))))]) (by decide +kernel) (Nat.le_of_ble_eq_true rfl) rfl ?_
  refine zV_aload_n 0 dX4_letter_0 rfl rfl (Or.inr ⟨_, rfl⟩) ?_
  refine zV_getf (v := .ref (o + 1)) (ci := 3) (q := (RX4, TX4, 27)) 1 dX4_letter_1 q1918 (md_k hM) rfl (by decide) (congrArg va_rf (md_r_s hM)) (by decide) ?_
  refine zV_jbipush dX4_letter_4 (by decide) ?_
  refine zV_iload_n 1 dX4_letter_6 rfl rfl ?_
  refine zV_jadd dX4_letter_7 ?_
  refine zV_tiald (p + 43) 171 dX4_letter_8 (md_k_s hM) (md_z_s hM) (by omega) (by omega) (by omega) ?_
  refine zV.eq (congrFun hP (p + 43)) ?_
  exact zV_ireturn dX4_letter_9 rfl rfl ⟨rfl, rfl⟩
theorem c_X4_set (hM : MdL h o) (hP : gI h (o + 1) = P) (p : Nat) (hp : p < 170) : zM G zX4_set 0 [.ref o, .int (jI (p : Int))] h (zJ h (some (.int (jI (P (p + 1)))))) := by
  refine zM.ofV (lv := [(0, .ref o), (1, .int (jI ((p : Int))))]) (by decide +kernel) (Nat.le_of_ble_eq_true rfl) rfl ?_
  refine zV_aload_n 0 dX4_set_0 rfl rfl (Or.inr ⟨_, rfl⟩) ?_
  refine zV_getf (v := .ref (o + 1)) (ci := 3) (q := (RX4, TX4, 27)) 1 dX4_set_1 q1918 (md_k hM) rfl (by decide) (congrArg va_rf (md_r_s hM)) (by decide) ?_
  refine zV_iconst (n := 1) dX4_set_4 ?_
  refine zV_iload_n 1 dX4_set_5 rfl rfl ?_
  refine zV_jadd dX4_set_6 ?_
  refine zV_tiald (p + 1) 171 dX4_set_7 (md_k_s hM) (md_z_s hM) (by omega) (by omega) (by omega) ?_
  refine zV.eq (congrFun hP (p + 1)) ?_
  exact zV_ireturn dX4_set_8 rfl rfl ⟨rfl, rfl⟩
theorem c_X4_cost (hM : MdL h o) (hP : gI h (o + 1) = P) (p : Nat) (hp : p < 165) : zM G zX4_cost 0 [.ref o, .int (jI (p : Int))] h (zJ h (some (.int (jI (P (p + 6)))))) := by
  refine zM.ofV (lv := [(0, .ref o), (1, .int (jI ((p : Int))))]) (by decide +kernel) (Nat.le_of_ble_eq_true rfl) rfl ?_
  refine zV_aload_n 0 dX4_cost_0 rfl rfl (Or.inr ⟨_, rfl⟩) ?_
  refine zV_getf (v := .ref (o + 1)) (ci := 3) (q := (RX4, TX4, 27)) 1 dX4_cost_1 q1918 (md_k hM) rfl (by decide) (congrArg va_rf (md_r_s hM)) (by decide) ?_
  refine zV_jbipush dX4_cost_4 (by decide) ?_
  refine zV_iload_n 1 dX4_cost_6 rfl rfl ?_
  refine zV_jadd dX4_cost_7 ?_
  refine zV_tiald (p + 6) 171 dX4_cost_8 (md_k_s hM) (md_z_s hM) (by omega) (by omega) (by omega) ?_
  refine zV.eq (congrFun hP (p + 6)) ?_
  exact zV_ireturn dX4_cost_9 rfl rfl ⟨rfl, rfl⟩
theorem c_X4_isPinned (hM : MdL h o) (hP : gI h (o + 1) = P) (p : Nat) (hp : p < 64) : zM G zX4_isPinned 0 [.ref o, .int (jI (p : Int))] h (zJ h (some (.int (jI (bI (P (p + 107) = 1)))))) := by
  refine zM.ofV (lv := [(0, .ref o), (1, .int (jI ((p : Int))))]) (by decide +kernel) (Nat.le_of_ble_eq_true rfl) rfl ?_
  refine zV_aload_n 0 dX4_isPinned_0 rfl rfl (Or.inr ⟨_, rfl⟩) ?_
  refine zV_getf (v := .ref (o + 1)) (ci := 3) (q := (RX4, TX4, 27)) 1 dX4_isPinned_1 q1918 (md_k hM) rfl (by decide) (congrArg va_rf (md_r_s hM)) (by decide) ?_
  refine zV_jbipush dX4_isPinned_4 (by decide) ?_
  refine zV_iload_n 1 dX4_isPinned_6 rfl rfl ?_
  refine zV_jadd dX4_isPinned_7 ?_
  refine zV_tiald (p + 107) 171 dX4_isPinned_8 (md_k_s hM) (md_z_s hM) (by omega) (by omega) (by omega) ?_
  refine zV.eq (congrFun hP (p + 107)) ?_
  refine zV_iconst (n := 1) dX4_isPinned_9 ?_
  refine zV_jcmp_ne 17 dX4_isPinned_10 rfl (by rw [← hP]; exact jr_toInt _) ⟨by decide, by decide⟩ (fun c => ?_) (fun c => ?_)
  · refine zV_iconst (n := 0) dX4_isPinned_17 ?_
    exact zV_ireturn dX4_isPinned_18 rfl rfl ⟨by rw [bI_f c], rfl⟩
  · refine zV_iconst (n := 1) dX4_isPinned_13 ?_
    refine zV_goto 18 dX4_isPinned_14 rfl ?_
    exact zV_ireturn dX4_isPinned_18 rfl rfl ⟨by rw [bI_t c], rfl⟩
def zIo (S : List Nat) (h h' : zH) : Prop := h' = zsI h (zI h') ∧ ∀ a, a ∉ S → ∀ j, zI h' a j = zI h a j
theorem zIo.rf {S : List Nat} {h : zH} : zIo S h h := ⟨rfl, fun _ _ _ => rfl⟩
theorem zIo.tr {S : List Nat} {h h1 h2 : zH} (a : zIo S h h1) (b : zIo S h1 h2) : zIo S h h2 := ⟨by rw [b.1, a.1]; rfl, fun q hq j => (b.2 q hq j).trans (a.2 q hq j)⟩
theorem zIo.mono {S S' : List Nat} {h h1 : zH} (a : zIo S h h1) (hs : ∀ q ∈ S, q ∈ S') : zIo S' h h1 := ⟨a.1, fun q hq j => a.2 q (fun z => hq (hs q z)) j⟩
theorem zIo.put {S : List Nat} {h h1 : zH} (a : zIo S h h1) {q k : Nat} {x : Int32} (hq : q ∈ S) : zIo S h (sI h1 q k x) := by
  refine ⟨by rw [a.1]; rfl, fun b hb j => ?_⟩
  show zu2 (zI h1) q k x b j = _
  rw [zu2_ne _ _ (fun e => hb (by rw [e.1]; exact hq))]
  exact a.2 b hb j
theorem MdL.io {S : List Nat} {h h1 : zH} {o : Nat} (hM : MdL h o) (a : zIo S h h1) : MdL h1 o := by
  rw [a.1]
  exact hM
theorem zIo.row {S : List Nat} {h h1 : zH} (a : zIo S h h1) {q : Nat} (hq : q ∉ S) : gI h1 q = gI h q := by
  funext j
  show (zI h1 q j).toInt = _
  rw [a.2 q hq j]
theorem gI_put {h : zH} {a k : Nat} {x : Int} {b j : Nat} (hx : jr x) : gI (sI h a k (jI x)) b j = if b = a ∧ j = k then x else gI h b j := by
  show (zu2 (zI h) a k (jI x) b j).toInt = _
  unfold zu2
  split
  · exact jI_toInt hx
  · rfl
end M1
