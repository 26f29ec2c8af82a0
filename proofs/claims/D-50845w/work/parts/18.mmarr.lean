/-! ===== MM: arrays, objects, statics, texts, casts, ends (printed by gen/mkarr.py) ===== -/
set_option maxRecDepth 100000
/-- an index: the int i is the place j of n -/
def zIx (i : Int32) (n j : Nat) : Prop := vp_in i n ∧ i.toNatClampNeg = j
theorem zIx.of {i : Int32} {n j : Nat} (h : i = nI j) (hj : j < n) (hn : n < 2 ^ 31) : zIx i n j := by
  subst h
  exact ⟨vp_in_nI hj hn, nI_clamp (Nat.lt_trans hj hn)⟩
theorem zIx.lt {i : Int32} {n j : Nat} (h : zIx i n j) : j < n := by
  have := zin_lt h.1
  rw [h.2] at this
  exact this
section ZLW
variable {p : Program} {l : Launch} {e : Env} {R : Room} {s : State} {m : MethodId} {args : Array Value} {below : List Frame} {meth : Method} {c : Code} {H : Heap} {locs : List Loc} {cells slots : Nat} {Q : State → Prop}
/-- ldc_w of a String constant (after the library's ldcString) -/
theorem z_ldcwS {cc : ByteArray} {pc : Nat} {ls : Array Slot} {rest : List Value} (hexec : p.tables.exec = Jvm.exec) (hb : c.code = cc) {own tx : String} {index q : Nat} (hown : s.vm.findClass own = some m.cls) (hZ : vk_R own index tx q s) (hdg : decode cc pc = .ok (.ldc_w index, 3))
    (k : W p l e R s m args below meth c H locs cells slots Q (F0 m (pc + 3) ls (.ref q :: rest))) : W p l e R s m args below meth c H locs cells slots Q (F0 m pc ls rest) := by
  intro T hT X
  obtain ⟨t, a1, b1⟩ := k T hT X
  refine ⟨t, ?_, b1⟩
  subst hb
  obtain ⟨k, cf, i, a', hk, hcf, hcp, -, hr, hev'⟩ := Cond.stringRef_spec hown hZ.1
  cases hZ.2.symm.trans hev'
  obtain ⟨k', hk', he⟩ := X.warmed.alike.2.2 _ _ hk
  have hr' : k'.resolved[index]? = some (some (.string q)) := by
    rcases X.warmed.entry hk hk' index with h | ⟨h, -⟩
    · rw [h]; exact hr
    · rw [hr] at h; cases h
  jvm_step X.here [hexec, hdg, ldc_w.wp_string (e := e) (s := T) (f := F0 m pc ls rest) X.here.top hk' (by rw [he]; exact hcf) hcp hr']
  exact a1
end ZLW
section ZA
variable {G : zG} {y : zY} {d pc : Nat} {lv : List (Nat × Value)} {st : List Value} {h : zH} {Q : zO → zH → Prop}
theorem zAr {s : State} (hI : zInv G s) {t : Nat} (ht : t < 7) (n : Nat) (f : Nat → Value) : s.isArrayOf (arrV (gA G t) n f) (zat t) := (hI.1.2 t _ (zTys_at G ht)).1 n f
theorem zArc {ρ : Nat → Nat} {H : Heap} (hS : zS G ρ h H) {a t : Nat} (ha : a < zN h) (hk : zK h a = 50 + t) (ht : t < 7) : H[ρ a]? = some (arrV (gA G t) (zZ h a) (fun j => ze ρ (zV0 h a j (zat t)))) := by
  have := (hS.2.2.1 a ha).1.2.1 (by omega) (by omega)
  rw [hk, Nat.add_sub_cancel_left] at this
  exact this
theorem zAtA {ρ : Nat → Nat} {h1 : zH} {H1 : Heap} {a t : Nat} (ht : t < 7) (hk : zK h1 a = 50 + t) (e : H1[ρ a]? = some (arrV (gA G t) (zZ h1 a) (fun j => ze ρ (zV0 h1 a j (zat t))))) : zAt G ρ h1 a H1 := by
  refine ⟨fun q => by omega, fun _ _ => ?_, fun q _ => by omega⟩
  rw [hk, Nat.add_sub_cancel_left]
  exact e
theorem zV_alen {a t : Nat} (dec : decode (yC y) pc = .ok (.arraylength, 1)) (hk : zK h a = 50 + t) (ht : t < 7) (kk : zV G y d (pc + 1) lv (.int (nI (zZ h a)) :: st) h Q) : zV G y d pc lv (.ref a :: st) h Q :=
  zV.read (fun w1 _ => zw_cons zw_int (zw_tl w1)) (fun hX hS hF hl w1 kk => W.alen (n := nI (zZ h a)) hX.1 hX.2.1 (zArc hS (zw_hd w1 a rfl) hk ht) (zAr hX.2.2.2.2.2.2.2.2.1 ht _ _) (by rw [arrV_size]; rfl) rfl rfl dec kk) kk
theorem zV_iald {a : Nat} {i : Int32} (j : Nat) (dec : decode (yC y) pc = .ok (.iaload, 1)) (hk : zK h a = 50) (hx : zIx i (zZ h a) j) (kk : zV G y d (pc + 1) lv (.int (zI h a j) :: st) h Q) : zV G y d pc lv (.int i :: .ref a :: st) h Q :=
  zV.read (fun w1 _ => zw_cons zw_int (zw_tl (zw_tl w1))) (fun hX hS hF hl w1 kk => W.iald hX.1 hX.2.1 (zArc (t := 0) hS (zw_hd (zw_tl w1) a rfl) hk (by decide)) (zAr hX.2.2.2.2.2.2.2.2.1 (t := 0) (by decide) _ _) (fun q => by cases q) (by rw [arrV_size]; exact hx.1) (by rw [arrV_read _ _ (zin_lt hx.1), hx.2]; rfl) rfl rfl dec kk) kk
theorem zV_bald {a : Nat} {i : Int32} (j : Nat) (dec : decode (yC y) pc = .ok (.baload, 1)) (hk : zK h a = 51) (hx : zIx i (zZ h a) j) (kk : zV G y d (pc + 1) lv (.int (zI h a j) :: st) h Q) : zV G y d pc lv (.int i :: .ref a :: st) h Q :=
  zV.read (fun w1 _ => zw_cons zw_int (zw_tl (zw_tl w1))) (fun hX hS hF hl w1 kk => W.bald hX.1 hX.2.1 (zArc (t := 1) hS (zw_hd (zw_tl w1) a rfl) hk (by decide)) (zAr hX.2.2.2.2.2.2.2.2.1 (t := 1) (by decide) _ _) (fun q => by cases q) (by rw [arrV_size]; exact hx.1) (by rw [arrV_read _ _ (zin_lt hx.1), hx.2]; rfl) rfl rfl dec kk) kk
theorem zV_zald {a : Nat} {i : Int32} (j : Nat) (dec : decode (yC y) pc = .ok (.baload, 1)) (hk : zK h a = 52) (hx : zIx i (zZ h a) j) (kk : zV G y d (pc + 1) lv (.int (zI h a j) :: st) h Q) : zV G y d pc lv (.int i :: .ref a :: st) h Q :=
  zV.read (fun w1 _ => zw_cons zw_int (zw_tl (zw_tl w1))) (fun hX hS hF hl w1 kk => W.zald hX.1 hX.2.1 (zArc (t := 2) hS (zw_hd (zw_tl w1) a rfl) hk (by decide)) (zAr hX.2.2.2.2.2.2.2.2.1 (t := 2) (by decide) _ _) (fun q => by cases q) (by rw [arrV_size]; exact hx.1) (by rw [arrV_read _ _ (zin_lt hx.1), hx.2]; rfl) rfl rfl dec kk) kk
theorem zV_lald {a : Nat} {i : Int32} (j : Nat) (dec : decode (yC y) pc = .ok (.laload, 1)) (hk : zK h a = 53) (hx : zIx i (zZ h a) j) (kk : zV G y d (pc + 1) lv (.long (zL h a j) :: st) h Q) : zV G y d pc lv (.int i :: .ref a :: st) h Q :=
  zV.read (fun w1 _ => zw_cons zw_long (zw_tl (zw_tl w1))) (fun hX hS hF hl w1 kk => W.lald hX.1 hX.2.1 (zArc (t := 3) hS (zw_hd (zw_tl w1) a rfl) hk (by decide)) (zAr hX.2.2.2.2.2.2.2.2.1 (t := 3) (by decide) _ _) (fun q => by cases q) (by rw [arrV_size]; exact hx.1) (by rw [arrV_read _ _ (zin_lt hx.1), hx.2]; rfl) rfl rfl dec kk) kk
theorem zV_dald {a : Nat} {i : Int32} (j : Nat) (dec : decode (yC y) pc = .ok (.daload, 1)) (hk : zK h a = 54) (hx : zIx i (zZ h a) j) (kk : zV G y d (pc + 1) lv (.double (zD h a j) :: st) h Q) : zV G y d pc lv (.int i :: .ref a :: st) h Q :=
  zV.read (fun w1 _ => zw_cons zw_double (zw_tl (zw_tl w1))) (fun hX hS hF hl w1 kk => W.dald hX.1 hX.2.1 (zArc (t := 4) hS (zw_hd (zw_tl w1) a rfl) hk (by decide)) (zAr hX.2.2.2.2.2.2.2.2.1 (t := 4) (by decide) _ _) (fun q => by cases q) (by rw [arrV_size]; exact hx.1) (by rw [arrV_read _ _ (zin_lt hx.1), hx.2]; rfl) rfl rfl dec kk) kk
theorem zV_aald {a t : Nat} {i : Int32} {v : Value} (j : Nat) (dec : decode (yC y) pc = .ok (.aaload, 1)) (hk : zK h a = 50 + t) (ht : t = 5 ∨ t = 6) (hx : zIx i (zZ h a) j) (hv : va_rf (zR h a j) = v) (kk : zV G y d (pc + 1) lv (v :: st) h Q) : zV G y d pc lv (.int i :: .ref a :: st) h Q := by
  subst hv
  have ht7 : t < 7 := by omega
  have hz : ∀ b k, zV0 h b k (zat t) = va_rf (zR h b k) := by rcases ht with e | e <;> subst e <;> exact fun _ _ => rfl
  have hr : (zat t).isReference = true := by rcases ht with e | e <;> subst e <;> rfl
  exact zV.read (fun w1 hcl => zw_cons (zw_rf fun x hx => hcl a (zw_hd (zw_tl w1) a rfl) j x hx) (zw_tl (zw_tl w1))) (fun hX hS hF hl w1 kk => W.aald hX.1 hX.2.1 (zArc hS (zw_hd (zw_tl w1) a rfl) hk ht7) (zAr hX.2.2.2.2.2.2.2.2.1 ht7 _ _) hr (fun q => by cases q) (by rw [arrV_size]; exact hx.1) (by rw [arrV_read _ _ (zin_lt hx.1), hx.2, hz]) rfl rfl dec kk) kk
theorem zV_iast {a : Nat} {i : Int32} {x : Int32} (j : Nat) (dec : decode (yC y) pc = .ok (.iastore, 1)) (hk : zK h a = 50) (ha : 64 ≤ a) (hx : zIx i (zZ h a) j) (kk : zV G y d (pc + 1) lv st (sI h a j (x)) Q) : zV G y d pc lv (.int x :: .int i :: .ref a :: st) h Q := by
  refine zV.write (h1 := sI h a j (x)) (a := a) (i0 := 0) ha rfl rfl rfl (zLe_sI ha) (fun b hb => ⟨rfl, rfl, fun j => ⟨zu2_ne _ _ (fun w => hb w.1), rfl, rfl, rfl⟩⟩) (fun w1 => zw_tl (zw_tl (zw_tl w1))) (fun w1 => zw_hd (zw_tl (zw_tl w1)) a rfl) (fun _ hcl haN j x hx => hcl a haN j x hx) (fun {p e R s m args below meth c H locs cells slots P ρ ls} hX hS w1 haN kk => ?_) kk
  refine W.iast hX.1 hX.2.1 (zArc (t := 0) hS haN hk (by decide)) (zAr hX.2.2.2.2.2.2.2.2.1 (t := 0) (by decide) _ _) (fun q => by cases q) (by rw [arrV_size]; exact hx.1) rfl rfl dec fun H1 e z oq => ?_
  refine kk H1 _ z oq (zAtA (t := 0) (by decide) hk ?_)
  rw [e, arrV_store, hx.2]
  congr 2
  funext b
  by_cases hb : b = j
  · subst hb
    simp only [updV, if_true]
    show _ = Value.int (zu2 (zI h) a b (x) a b)
    rw [zu2_eq]
    try rfl
  · simp only [updV, if_neg hb]
    show Value.int (zI h a b) = Value.int (zu2 (zI h) a j (x) a b)
    rw [zu2_ne _ _ (fun w => hb w.2)]
theorem zV_bast {a : Nat} {i : Int32} {x : Int32} (j : Nat) (dec : decode (yC y) pc = .ok (.bastore, 1)) (hk : zK h a = 51) (ha : 64 ≤ a) (hx : zIx i (zZ h a) j) (kk : zV G y d (pc + 1) lv st (sI h a j (x.toInt8.toInt32)) Q) : zV G y d pc lv (.int x :: .int i :: .ref a :: st) h Q := by
  refine zV.write (h1 := sI h a j (x.toInt8.toInt32)) (a := a) (i0 := 0) ha rfl rfl rfl (zLe_sI ha) (fun b hb => ⟨rfl, rfl, fun j => ⟨zu2_ne _ _ (fun w => hb w.1), rfl, rfl, rfl⟩⟩) (fun w1 => zw_tl (zw_tl (zw_tl w1))) (fun w1 => zw_hd (zw_tl (zw_tl w1)) a rfl) (fun _ hcl haN j x hx => hcl a haN j x hx) (fun {p e R s m args below meth c H locs cells slots P ρ ls} hX hS w1 haN kk => ?_) kk
  refine W.bast hX.1 hX.2.1 (zArc (t := 1) hS haN hk (by decide)) (zAr hX.2.2.2.2.2.2.2.2.1 (t := 1) (by decide) _ _) (fun q => by cases q) (by rw [arrV_size]; exact hx.1) rfl rfl dec fun H1 e z oq => ?_
  refine kk H1 _ z oq (zAtA (t := 1) (by decide) hk ?_)
  rw [e, arrV_store, hx.2]
  congr 2
  funext b
  by_cases hb : b = j
  · subst hb
    simp only [updV, if_true]
    show _ = Value.int (zu2 (zI h) a b (x.toInt8.toInt32) a b)
    rw [zu2_eq]
    try rfl
  · simp only [updV, if_neg hb]
    show Value.int (zI h a b) = Value.int (zu2 (zI h) a j (x.toInt8.toInt32) a b)
    rw [zu2_ne _ _ (fun w => hb w.2)]
theorem zV_zast {a : Nat} {i : Int32} {x : Int32} (j : Nat) (dec : decode (yC y) pc = .ok (.bastore, 1)) (hk : zK h a = 52) (ha : 64 ≤ a) (hx : zIx i (zZ h a) j) (hn : narrow .boolean (.int x) = .int x) (kk : zV G y d (pc + 1) lv st (sI h a j (x)) Q) : zV G y d pc lv (.int x :: .int i :: .ref a :: st) h Q := by
  refine zV.write (h1 := sI h a j (x)) (a := a) (i0 := 0) ha rfl rfl rfl (zLe_sI ha) (fun b hb => ⟨rfl, rfl, fun j => ⟨zu2_ne _ _ (fun w => hb w.1), rfl, rfl, rfl⟩⟩) (fun w1 => zw_tl (zw_tl (zw_tl w1))) (fun w1 => zw_hd (zw_tl (zw_tl w1)) a rfl) (fun _ hcl haN j x hx => hcl a haN j x hx) (fun {p e R s m args below meth c H locs cells slots P ρ ls} hX hS w1 haN kk => ?_) kk
  refine W.zast hX.1 hX.2.1 (zArc (t := 2) hS haN hk (by decide)) (zAr hX.2.2.2.2.2.2.2.2.1 (t := 2) (by decide) _ _) (fun q => by cases q) (by rw [arrV_size]; exact hx.1) rfl rfl dec fun H1 e z oq => ?_
  refine kk H1 _ z oq (zAtA (t := 2) (by decide) hk ?_)
  rw [hn] at e; rw [e, arrV_store, hx.2]
  congr 2
  funext b
  by_cases hb : b = j
  · subst hb
    simp only [updV, if_true]
    show _ = Value.int (zu2 (zI h) a b (x) a b)
    rw [zu2_eq]
    try rfl
  · simp only [updV, if_neg hb]
    show Value.int (zI h a b) = Value.int (zu2 (zI h) a j (x) a b)
    rw [zu2_ne _ _ (fun w => hb w.2)]
theorem zV_last {a : Nat} {i : Int32} {x : Int64} (j : Nat) (dec : decode (yC y) pc = .ok (.lastore, 1)) (hk : zK h a = 53) (ha : 64 ≤ a) (hx : zIx i (zZ h a) j) (kk : zV G y d (pc + 1) lv st (sL h a j (x)) Q) : zV G y d pc lv (.long x :: .int i :: .ref a :: st) h Q := by
  refine zV.write (h1 := sL h a j (x)) (a := a) (i0 := 0) ha rfl rfl rfl (zLe_sL ha) (fun b hb => ⟨rfl, rfl, fun j => ⟨rfl, rfl, zu2_ne _ _ (fun w => hb w.1), rfl⟩⟩) (fun w1 => zw_tl (zw_tl (zw_tl w1))) (fun w1 => zw_hd (zw_tl (zw_tl w1)) a rfl) (fun _ hcl haN j x hx => hcl a haN j x hx) (fun {p e R s m args below meth c H locs cells slots P ρ ls} hX hS w1 haN kk => ?_) kk
  refine W.last hX.1 hX.2.1 (zArc (t := 3) hS haN hk (by decide)) (zAr hX.2.2.2.2.2.2.2.2.1 (t := 3) (by decide) _ _) (fun q => by cases q) (by rw [arrV_size]; exact hx.1) rfl rfl dec fun H1 e z oq => ?_
  refine kk H1 _ z oq (zAtA (t := 3) (by decide) hk ?_)
  rw [e, arrV_store, hx.2]
  congr 2
  funext b
  by_cases hb : b = j
  · subst hb
    simp only [updV, if_true]
    show _ = Value.long (zu2 (zL h) a b (x) a b)
    rw [zu2_eq]
    try rfl
  · simp only [updV, if_neg hb]
    show Value.long (zL h a b) = Value.long (zu2 (zL h) a j (x) a b)
    rw [zu2_ne _ _ (fun w => hb w.2)]
theorem zV_dast {a : Nat} {i : Int32} {x : UInt64} (j : Nat) (dec : decode (yC y) pc = .ok (.dastore, 1)) (hk : zK h a = 54) (ha : 64 ≤ a) (hx : zIx i (zZ h a) j) (kk : zV G y d (pc + 1) lv st (sD h a j (x)) Q) : zV G y d pc lv (.double x :: .int i :: .ref a :: st) h Q := by
  refine zV.write (h1 := sD h a j (x)) (a := a) (i0 := 0) ha rfl rfl rfl (zLe_sD ha) (fun b hb => ⟨rfl, rfl, fun j => ⟨rfl, rfl, rfl, zu2_ne _ _ (fun w => hb w.1)⟩⟩) (fun w1 => zw_tl (zw_tl (zw_tl w1))) (fun w1 => zw_hd (zw_tl (zw_tl w1)) a rfl) (fun _ hcl haN j x hx => hcl a haN j x hx) (fun {p e R s m args below meth c H locs cells slots P ρ ls} hX hS w1 haN kk => ?_) kk
  refine W.dast hX.1 hX.2.1 (zArc (t := 4) hS haN hk (by decide)) (zAr hX.2.2.2.2.2.2.2.2.1 (t := 4) (by decide) _ _) (fun q => by cases q) (by rw [arrV_size]; exact hx.1) rfl rfl dec fun H1 e z oq => ?_
  refine kk H1 _ z oq (zAtA (t := 4) (by decide) hk ?_)
  rw [e, arrV_store, hx.2]
  congr 2
  funext b
  by_cases hb : b = j
  · subst hb
    simp only [updV, if_true]
    show _ = Value.double (zu2 (zD h) a b (x) a b)
    rw [zu2_eq]
    try rfl
  · simp only [updV, if_neg hb]
    show Value.double (zD h a b) = Value.double (zu2 (zD h) a j (x) a b)
    rw [zu2_ne _ _ (fun w => hb w.2)]
theorem zRst {a j : Nat} {x : Option Nat} {ρ : Nat → Nat} {t : Nat} (ht : t = 5 ∨ t = 6) : (fun b => ze ρ (zV0 (sR h a j x) a b (zat t))) = updV (fun b => ze ρ (zV0 h a b (zat t))) j (ze ρ (va_rf x)) := by
  have hz : ∀ (g : zH) b k, zV0 g b k (zat t) = va_rf (zR g b k) := by rcases ht with e | e <;> subst e <;> exact fun _ _ _ => rfl
  funext b
  by_cases hb : b = j
  · subst hb
    simp only [updV, if_true, hz]
    show ze ρ (va_rf (zu2 (zR h) a b x a b)) = _
    rw [zu2_eq]
  · simp only [updV, if_neg hb, hz]
    show ze ρ (va_rf (zu2 (zR h) a j x a b)) = _
    rw [zu2_ne _ _ (fun w => hb w.2)]
theorem zRcl {a j : Nat} {x : Option Nat} (hv : ∀ z, x = some z → z < zN h) (hcl : ∀ b, b < zN h → ∀ j x, zR h b j = some x → x < zN h) (haN : a < zN h) : ∀ j' z, zR (sR h a j x) a j' = some z → z < zN h := by
  intro j' z hz
  have hz2 : zu2 (zR h) a j x a j' = some z := hz
  by_cases e : j' = j
  · subst e
    rw [zu2_eq] at hz2
    exact hv z hz2
  · rw [zu2_ne _ _ (fun w => e w.2)] at hz2
    exact hcl a haN j' z hz2
/-- null into an array of references -/
theorem zV_aastN {a t : Nat} {i : Int32} (j : Nat) (dec : decode (yC y) pc = .ok (.aastore, 1)) (hk : zK h a = 50 + t) (ht : t = 5 ∨ t = 6) (ha : 64 ≤ a) (hx : zIx i (zZ h a) j) (kk : zV G y d (pc + 1) lv st (sR h a j none) Q) : zV G y d pc lv (.null :: .int i :: .ref a :: st) h Q := by
  have ht7 : t < 7 := by omega
  obtain ⟨C, hC⟩ : ∃ C, zat t = .object C := by rcases ht with e | e <;> subst e <;> exact ⟨_, rfl⟩
  refine zV.write (h1 := sR h a j none) (a := a) (i0 := 0) ha rfl rfl rfl (zLe_sR ha) (fun b hb => ⟨rfl, rfl, fun j => ⟨rfl, zu2_ne _ _ (fun w => hb w.1), rfl, rfl⟩⟩) (fun w1 => zw_tl (zw_tl (zw_tl w1))) (fun w1 => zw_hd (zw_tl (zw_tl w1)) a rfl) (fun _ hcl haN => zRcl (fun z hz => by cases hz) hcl haN) (fun {p e R s m args below meth c H locs cells slots P ρ ls} hX hS w1 haN kk => ?_) kk
  have hAr := zAr hX.2.2.2.2.2.2.2.2.1 ht7 (zZ h a) (fun b => ze ρ (zV0 h a b (zat t)))
  rw [hC] at hAr
  refine va_WaastN (C := C) hX.1 hX.2.1 (zArc hS haN hk ht7) (by rw [hC]; exact hAr) (fun q => by cases q) (by rw [arrV_size]; exact hx.1) rfl rfl dec fun H1 e z oq => ?_
  refine kk H1 _ z oq (zAtA ht7 hk ?_)
  rw [e, arrV_store, hx.2, zRst ht]
  rfl
/-- an object into an array of references -/
theorem zV_aast {a t b ci : Nat} {q : vw_C} {C : String} {i : Int32} (j : Nat) (dec : decode (yC y) pc = .ok (.aastore, 1)) (hk : zK h a = 50 + t) (ht : t = 5 ∨ t = 6) (ha : 64 ≤ a) (hx : zIx i (zZ h a) j) (hC : zat t = .object C) (hkb : zK h b = ci) (hc : zCl[ci]? = some q) (h40 : ci < 40) (hcast : q.1 = C ∨ Cond.castable q.1 C ∈ zNest) (kk : zV G y d (pc + 1) lv st (sR h a j (some b)) Q) : zV G y d pc lv (.ref b :: .int i :: .ref a :: st) h Q := by
  have ht7 : t < 7 := by omega
  refine zV.write (h1 := sR h a j (some b)) (a := a) (i0 := 0) ha rfl rfl rfl (zLe_sR ha) (fun b hb => ⟨rfl, rfl, fun j => ⟨rfl, zu2_ne _ _ (fun w => hb w.1), rfl, rfl⟩⟩) (fun w1 => zw_tl (zw_tl (zw_tl w1))) (fun w1 => zw_hd (zw_tl (zw_tl w1)) a rfl) (fun w1 hcl haN => zRcl (fun z hz => by cases hz; exact zw_hd w1 b rfl) hcl haN) (fun {p e R s m args below meth c H locs cells slots P ρ ls} hX hS w1 haN kk => ?_) kk
  have hI := hX.2.2.2.2.2.2.2.2.1
  obtain ⟨r, hr', cellV, g1, g2, g3, -⟩ := (hS.2.2.1 b (zw_hd w1 b rfl)).1.1 (by rw [hkb]; exact h40)
  rw [hkb] at g2
  have hcls := (hI.1.1 ci q hc).2
  have hRA := (hI.1.2 t _ (zTys_at G ht7)).2
  have hRA' : va_RA s (gA G t) (.object C) := by rw [← hC]; exact hRA
  obtain ⟨kA, comp, k1, k2, k3, -⟩ := hRA'
  obtain ⟨kC, hkC, -⟩ := hcls.2
  have hasg : s.vm.assignable cellV.cls comp = true ∧ ∃ kc : Class, s.vm.classes[comp]? = some kc := by
    rcases hcast with e | e
    · subst e
      have hcomp : comp = (gD G).1 ci := Option.some.inj (k3.symm.trans hcls.1)
      rw [hcomp, g2]
      exact ⟨va_assign hcls, kC, hkC⟩
    · obtain ⟨c3, c4, hc3, hc4, hasg⟩ := Cond.castable_spec (hI.2.1 _ e)
      cases hc3.symm.trans hcls.1
      cases hc4.symm.trans k3
      obtain ⟨k9, h9, -⟩ := Vm.findClass_spec k3
      exact ⟨by rw [g2]; exact hasg, k9, h9⟩
  obtain ⟨hasg, kc, hkc⟩ := hasg
  refine W.aast hX.1 hX.2.1 (zArc hS haN hk ht7) (fun q h => by cases h) (fun h => by cases h) k1 k2 rfl hkc ⟨fun q => hx.1 (Or.inl q), by rw [arrV_size]; exact zin_lt hx.1⟩ g1 (fun q h => by rw [g3] at h; cases h) (by rw [g2]; exact hkC) hasg rfl rfl dec fun H1 e z oq => ?_
  refine kk H1 _ z oq (zAtA ht7 hk ?_)
  rw [e, arrV_store, hx.2, zRst ht]
  rfl
theorem zNewZ {ρ' : Nat → Nat} {kd n sl j : Nat} {ty : FieldType} : ze ρ' (zV0 (sN h kd n sl) (zN h) j ty) = defaultValue ty := by
  have e1 : zI (sN h kd n sl) (zN h) j = 0 := if_pos rfl
  have e2 : zR (sN h kd n sl) (zN h) j = none := if_pos rfl
  have e3 : zL (sN h kd n sl) (zN h) j = 0 := if_pos rfl
  have e4 : zD (sN h kd n sl) (zN h) j = 0 := if_pos rfl
  cases ty <;> simp only [zV0, e1, e2, e3, e4] <;> rfl
theorem zNewK {kd n sl : Nat} : zK (sN h kd n sl) (zN h) = kd := if_pos rfl
theorem zNewL {kd n sl : Nat} : zZ (sN h kd n sl) (zN h) = n := if_pos rfl
theorem zV_new {ci i sl : Nat} {q : vw_C} (dec : decode (yC y) pc = .ok (.new i, 3)) (hl : Cond.classLink (yN y).cls i q.1 ∈ lw_all) (hin : Cond.instantiable q.1 sl ∈ lw_all) (hi : Cond.initialized q.1 ∈ lw_all) (hc : zCl[ci]? = some q) (h40 : ci < 40) (h64 : 64 ≤ zN h) (kk : zV G y d (pc + 3) lv (.ref (zN h) :: st) (sN h ci 0 sl) Q) : zV G y d pc lv st h Q := by
  refine zV.make (fun w1 => w1) (fun {p e R s m args below meth c H locs cells slots P ρ ls} hX hS hF w1 i1 i2 kk => ?_) (fun _ => kk) h64
  have hts := hX.2.2.2.2.2.2.2.1
  have hI := hX.2.2.2.2.2.2.2.2.1
  have hKn := hI.1.1 _ _ hc
  refine W.newcK hX.1 hX.2.1 hX.2.2.2.2.2.1 (hts _ hl) (hts _ hin) (hts _ hi) rfl dec i1 i2 hKn.2.1 rfl fun H1 kC hkC e1 z1 o1 => ?_
  refine kk H1 z1 o1 fun ρ' hr hq => ?_
  obtain ⟨cell, b1, b2, b3, b4⟩ := u_born (zTy ci) hts (zCl_in _ _ hc) hKn hkC e1 (zTy_ok _ _ hc)
  refine ⟨fun _ => ⟨q, by rw [zNewK]; exact hc, cell, by rw [hq]; exact b1, by rw [zNewK]; exact b2, b3, fun j hj => ?_⟩, fun q1 q2 => by rw [zNewK] at q1; omega, fun q1 q2 => by rw [zNewK] at q1; omega⟩
  rw [zNewK]
  show _ = some (ze ρ' (zV0 _ _ _ _))
  rw [zNewZ]
  exact b4 j hj
theorem zV_newa {t : Nat} {x : Int32} {atype : ArrayType} (n : Nat) (dec : decode (yC y) pc = .ok (.newarray atype, 2)) (hty : newarray.typeOf atype = zat t) (ht : t < 5) (hw : Cond.arrayClass (zat t) ∈ lw_all) (hx : x = nI n) (hn : n < 100000) (h64 : 64 ≤ zN h) (kk : zV G y d (pc + 2) lv (.ref (zN h) :: st) (sN h (50 + t) n n) Q) : zV G y d pc lv (.int x :: st) h Q := by
  refine zV.make (fun w1 => zw_tl w1) (fun {p e R s m args below meth c H locs cells slots P ρ ls} hX hS hF w1 i1 i2 kk => ?_) (fun _ => kk) h64
  have hts := hX.2.2.2.2.2.2.2.1
  have hI := hX.2.2.2.2.2.2.2.2.1
  have hcb : componentBytes (zat t) ≤ 8 := by
    rcases (show t = 0 ∨ t = 1 ∨ t = 2 ∨ t = 3 ∨ t = 4 by omega) with e | e | e | e | e <;> subst e <;> decide
  refine va_newaK (N := n) hX.1 hX.2.1 (by rw [hty]; exact hts _ hw) rfl dec rfl (by rw [hx]; exact nI_pos (by omega)) (by rw [hx]; exact nI_clamp (by omega)) (by rw [hty]; exact Nat.le_trans (Nat.mul_le_mul (Nat.le_of_lt hn) hcb) (by decide)) i1 i2 rfl fun H1 cA e1 z1 o1 hAr hNm => ?_
  rw [hty] at hNm e1
  have hRA := (hI.1.2 t _ (zTys_at G (by omega))).2
  have hRA' : s.vm.findClass ("[" ++ (zat t).toString) = some (gA G t) := by
    rcases (show t = 0 ∨ t = 1 ∨ t = 2 ∨ t = 3 ∨ t = 4 by omega) with e | e | e | e | e <;> subst e <;> exact hRA
  cases hNm.symm.trans hRA'
  refine kk H1 z1 o1 fun ρ' hr hq => ?_
  refine zAtA (t := t) (by omega) zNewK ?_
  rw [hq, e1, zNewL]
  congr 2
  funext j
  exact zNewZ.symm
theorem zV_anew {t i : Nat} {x : Int32} {C : String} (n : Nat) (dec : decode (yC y) pc = .ok (.anewarray i, 3)) (hC : zat t = .object C) (ht : t = 5 ∨ t = 6) (hl : Cond.classLink (yN y).cls i C ∈ lw_all) (hx : x = nI n) (hn : n < 100000) (h64 : 64 ≤ zN h) (kk : zV G y d (pc + 3) lv (.ref (zN h) :: st) (sN h (50 + t) n n) Q) : zV G y d pc lv (.int x :: st) h Q := by
  refine zV.make (fun w1 => zw_tl w1) (fun {p e R s m args below meth c H locs cells slots P ρ ls} hX hS hF w1 i1 i2 kk => ?_) (fun _ => kk) h64
  have hts := hX.2.2.2.2.2.2.2.1
  have hI := hX.2.2.2.2.2.2.2.2.1
  have hcl : x.toNatClampNeg = n := by rw [hx]; exact nI_clamp (by omega)
  have hAO : va_AO C s := by rcases ht with e | e <;> subst e <;> cases hC <;> first | exact hI.2.2.2.2.2.2.1 | exact hI.2.2.2.2.2.2.2.1
  refine W.anew hX.1 hX.2.1 hX.2.2.2.2.2.1 (hts _ hl) (va_AO.use hAO) rfl dec rfl (by rw [hx]; exact nI_pos (by omega)) (by rw [hcl]; omega) i1 (by rw [hcl]; exact i2) fun cA kA comp f1 f2 f3 f4 => ?_
  have hRA := (hI.1.2 t _ (zTys_at G (by omega))).2
  have hRA' : va_RA s (gA G t) (.object C) := by rw [← hC]; exact hRA
  obtain ⟨kA', comp', k1, k2, k3, k4⟩ := hRA'
  cases f1.symm.trans k4
  rw [hcl]
  generalize hH1 : H.push ({ cls := gA G t, slots := Array.replicate n .null, vm := .none } : Cell) = H1
  have z1 : H1.size = H.size + 1 := by rw [← hH1, Array.size_push]
  have e1 : H1[H.size]? = some (arrV (gA G t) n (fun _ => .null)) := by rw [← hH1, Array.getElem?_push_size, ← arrV_new]
  have o1 : ∀ q : Nat, q < H.size → H1[q]? = H[q]? := fun q hq => by rw [← hH1, Array.getElem?_push, if_neg (Nat.ne_of_lt hq)]
  refine kk H1 z1 o1 fun ρ' hr hq => ?_
  refine zAtA (t := t) (by omega) zNewK ?_
  rw [hq, e1, zNewL]
  congr 2
  funext j
  rw [zNewZ, hC]
  rfl
theorem zV_getst {i : Nat} {C n ds : String} {v : Value} (dec : decode (yC y) pc = .ok (.getstatic i, 3)) (hl : Cond.fieldLink (yN y).cls i C n ds ∈ lw_all) (hm : (C, n, ds, v) ∈ zSts G) (h64 : 64 ≤ zN h) (kk : zV G y d (pc + 3) lv (v :: st) h Q) : zV G y d pc lv st h Q := by
  have h64' : ∀ a, v = .ref a → a < 64 := by
    intro a e
    subst e
    simp only [zSts, gO, List.mem_cons, Prod.mk.injEq, List.not_mem_nil, or_false] at hm
    rcases hm with ⟨-, -, -, e⟩ | ⟨-, -, -, e⟩ | ⟨-, -, -, e⟩ | ⟨-, -, -, e⟩ | ⟨-, -, -, e⟩ | ⟨-, -, -, e⟩ | ⟨-, -, -, e⟩ | ⟨-, -, -, e⟩ | ⟨-, -, -, e⟩ | ⟨-, -, -, e⟩ | ⟨-, -, -, e⟩ | ⟨-, -, -, e⟩ | ⟨-, -, -, e⟩ | ⟨-, -, -, e⟩ <;> first | (cases e; done) | (cases e; decide) | (split at e <;> cases e; decide)
  refine zV.read (fun w1 _ => zw_cons (fun a e => Nat.lt_of_lt_of_le (h64' a e) h64) w1) (fun {p e R s m args below meth c H locs cells slots P ρ ls} hX hS hF hl0 w1 kk => ?_) kk
  have hts := hX.2.2.2.2.2.2.2.1
  have hI := hX.2.2.2.2.2.2.2.2.1
  have e : ze (gC G) v = ze ρ v := (ze_agree (ρ := ρ) (ρ' := gC G) (n := 64) (fun a ha => (hS.2.1 a ha).1.symm) (fun a e => h64' a e))
  have hZ := hI.2.2.2.1 _ hm
  dsimp only at hZ
  rw [e] at hZ
  exact va_gets hX.1 hX.2.1 hZ hF hX.2.2.2.2.2.1 (hts _ hl) (fun _ e => e) dec kk
theorem zV_ldcS {i c0 : Nat} {tx : String} (dec : decode (yC y) pc = .ok (.ldc i, 2)) (hm : ((yN y).cls, i, tx, c0) ∈ zStr) (h64 : 64 ≤ zN h) (kk : zV G y d (pc + 2) lv (.ref c0 :: st) h Q) : zV G y d pc lv st h Q := by
  have hc0 : c0 < 64 := by
    have : ∀ q ∈ zStr, q.2.2.2 < 64 := by decide +kernel
    exact this _ hm
  refine zV.read (fun w1 _ => zw_cons (zw_ref (Nat.lt_of_lt_of_le hc0 h64)) w1) (fun {p e R s m args below meth c H locs cells slots P ρ ls} hX hS hF hl0 w1 kk => ?_) kk
  have hZ := hX.2.2.2.2.2.2.2.2.1.2.2.1 _ hm
  dsimp only at hZ
  rw [← (hS.2.1 c0 hc0).1] at hZ
  exact va_ldcS hX.1 hX.2.1 hX.2.2.2.2.2.1 hZ dec kk
theorem zV_ldcwS {i c0 : Nat} {tx : String} (dec : decode (yC y) pc = .ok (.ldc_w i, 3)) (hm : ((yN y).cls, i, tx, c0) ∈ zStr) (h64 : 64 ≤ zN h) (kk : zV G y d (pc + 3) lv (.ref c0 :: st) h Q) : zV G y d pc lv st h Q := by
  have hc0 : c0 < 64 := by
    have : ∀ q ∈ zStr, q.2.2.2 < 64 := by decide +kernel
    exact this _ hm
  refine zV.read (fun w1 _ => zw_cons (zw_ref (Nat.lt_of_lt_of_le hc0 h64)) w1) (fun {p e R s m args below meth c H locs cells slots P ρ ls} hX hS hF hl0 w1 kk => ?_) kk
  have hZ := hX.2.2.2.2.2.2.2.2.1.2.2.1 _ hm
  dsimp only at hZ
  rw [← (hS.2.1 c0 hc0).1] at hZ
  exact z_ldcwS hX.1 hX.2.1 hX.2.2.2.2.2.1 hZ dec kk
theorem zV_cast {a ci i : Nat} {q : vw_C} {C : String} (dec : decode (yC y) pc = .ok (.checkcast i, 3)) (hl : Cond.classLink (yN y).cls i C ∈ lw_all) (hk : zK h a = ci) (hc : zCl[ci]? = some q) (h40 : ci < 40) (hC : q.1 = C) (kk : zV G y d (pc + 3) lv (.ref a :: st) h Q) : zV G y d pc lv (.ref a :: st) h Q := by
  subst hC
  refine zV.read (fun w1 _ => w1) (fun hX hS hF hl0 w1 kk => ?_) kk
  exact va_castS hX.1 hX.2.1 hX.2.2.2.2.2.1 (hX.2.2.2.2.2.2.2.1 _ hl) (hX.2.2.2.2.2.2.2.2.1.1.1 _ _ hc).2 (z_recv hX.2.2.2.2.2.2.2.2.1 hS (zw_hd w1 a rfl) hk hc h40) dec kk
theorem zV_inst {a ci i : Nat} {q : vw_C} {C : String} (dec : decode (yC y) pc = .ok (.instanceof i, 3)) (hl : Cond.classLink (yN y).cls i C ∈ lw_all) (hk : zK h a = ci) (hc : zCl[ci]? = some q) (h40 : ci < 40) (hC : q.1 = C) (kk : zV G y d (pc + 3) lv (.int 1 :: st) h Q) : zV G y d pc lv (.ref a :: st) h Q := by
  subst hC
  refine zV.read (fun w1 _ => zw_cons zw_int (zw_tl w1)) (fun hX hS hF hl0 w1 kk => ?_) kk
  exact va_instS hX.1 hX.2.1 hX.2.2.2.2.2.1 (hX.2.2.2.2.2.2.2.1 _ hl) (hX.2.2.2.2.2.2.2.2.1.1.1 _ _ hc).2 (z_recv hX.2.2.2.2.2.2.2.2.1 hS (zw_hd w1 a rfl) hk hc h40) dec kk
theorem zV_castN {i : Nat} (dec : decode (yC y) pc = .ok (.checkcast i, 3)) (kk : zV G y d (pc + 3) lv (.null :: st) h Q) : zV G y d pc lv (.null :: st) h Q :=
  zV.read (fun w1 _ => w1) (fun hX hS hF hl0 w1 kk => lv_castN hX.1 hX.2.1 dec kk) kk
theorem zV_objInit {a i : Nat} (dec : decode (yC y) pc = .ok (.invokespecial i, 3)) (hl : Cond.methodLink (yN y).cls i objectInit ∈ lw_all) (h1 : Cond.instanceMethod objectInit ∈ lw_all) (h2 : Cond.code objectInit ⟨#[0xb1]⟩ 1 none ∈ lw_all) (hst : (st.map fun v => v.category).sum ≤ 100) (kk : zV G y d (pc + 3) lv st h Q) : zV G y d pc lv (.ref a :: st) h Q := by
  refine zV.read (fun w1 _ => zw_tl w1) (fun {p e R s m args below meth c H locs cells slots P ρ ls} hX hS hF hl0 w1 kk => ?_) kk
  have hts := hX.2.2.2.2.2.2.2.1
  refine W.objInit hX.1 hX.2.1 hX.2.2.2.2.2.1 (hts _ hl) (hts _ h1) (hts _ h2) rfl (by rw [hX.2.2.1]; exact hl0.1) rfl dec (Nat.le_trans (by simp only [zFr]; omega) hX.2.2.2.2.2.2.2.2.2.2.1) (Nat.le_trans ?_ hX.2.2.2.2.2.2.2.2.2.2.2.1) kk
  rw [zcats]
  show 2 * 0 + _ + 12 ≤ zLo d
  simp only [zLo]
  omega
theorem zEnds {r : zO} {v : Option Value} {ρ : Nat → Nat} {below : List Frame} {s : State} {args : Array Value} {mc ms cells slots : Nat} {H : Heap} {locs : List Loc} (hS : zS G ρ h H) (hF : va_S (zA G) s.heap H locs) (hr : r = .inl v) (hw : ∀ w, v = some w → zw (zN h) w) (i1 : cells + (zC h - zC h) ≤ mc) (i2 : slots + (zU h - zU h) ≤ ms) :
    ∀ t, MQ below (fun _ _ o t => o = .returned (v.map (ze ρ)) ∧ t.heap = H) args s cells slots (zA G) t → zEnd G r h ρ (zN h) below s mc ms t := by
  rintro t ⟨o, h1, h2, ⟨h3, h4⟩, L, ⟨h5, h6, h7⟩, h8⟩
  subst hr
  exact ⟨o, h1, h2, ρ, fun _ _ => rfl, by rw [h4]; exact hS, hF.F h4, h6, ⟨L, h7.mono (by omega) (by omega), h8⟩, h3, hw⟩
theorem zV.ret {v : Option Value} (hq : Q (.inl v) h) (hw : (∀ v ∈ st, zw (zN h) v) → ∀ w, v = some w → zw (zN h) w)
    (H0 : ∀ {p : Program} {e : Env} {R : Room} {s : State} {m : MethodId} {args : Array Value} {below : List Frame} {meth : Method} {c : Code} {H : Heap} {locs : List Loc} {cells slots : Nat} {ρ : Nat → Nat} {ls : Array Slot}, zX G y d p e R s m args below meth c → (∀ q ∈ locs, zA G q.base) →
      W p (gL G) e R s m args below meth c H locs cells slots (MQ below (fun _ _ o t => o = .returned (v.map (ze ρ)) ∧ t.heap = H) args s cells slots (zA G)) (F0 m pc ls (st.map (ze ρ)))) : zV G y d pc lv st h Q :=
  ⟨.inl v, h, hq, zLe.rf, fun p e R s m args below meth c ρ H locs cells slots mc ms ls hX hS hF hl w1 w2 i1 i2 i3 i4 => zW_mono (zEnds hS hF rfl (hw w1) i1 i2) (H0 hX hF.2.2)⟩
theorem zV_ireturn {x : Int32} {ty : FieldType} (dec : decode (yC y) pc = .ok (.ireturn, 1)) (hR : yR y = some ty) (hn : narrow ty (.int x) = .int x) (hq : Q (.inl (some (.int x))) h) : zV G y d pc lv [.int x] h Q :=
  zV.ret hq (fun _ w e => by cases e; exact zw_int) (fun hX hf => W.zret hX.1 hX.2.1 (hX.2.2.2.1.trans hR) hn (fun t ht _ => ⟨rfl, ht⟩) hf dec hX.2.2.2.2.1)
theorem zV_lreturn {x : Int64} (dec : decode (yC y) pc = .ok (.lreturn, 1)) (hR : yR y = some .long) (hq : Q (.inl (some (.long x))) h) : zV G y d pc lv [.long x] h Q :=
  zV.ret hq (fun _ w e => by cases e; exact zw_long) (fun hX hf => W.lret hX.1 hX.2.1 (hX.2.2.2.1.trans hR) (fun t ht _ => ⟨rfl, ht⟩) hf dec hX.2.2.2.2.1)
theorem zV_freturn {x : UInt32} (dec : decode (yC y) pc = .ok (.freturn, 1)) (hR : yR y = some .float) (hq : Q (.inl (some (.float x))) h) : zV G y d pc lv [.float x] h Q :=
  zV.ret hq (fun _ w e => by cases e; exact zw_float) (fun hX hf => W.fret hX.1 hX.2.1 (hX.2.2.2.1.trans hR) (fun t ht _ => ⟨rfl, ht⟩) hf dec hX.2.2.2.2.1)
theorem zV_dreturn {x : UInt64} (dec : decode (yC y) pc = .ok (.dreturn, 1)) (hR : yR y = some .double) (hq : Q (.inl (some (.double x))) h) : zV G y d pc lv [.double x] h Q :=
  zV.ret hq (fun _ w e => by cases e; exact zw_double) (fun hX hf => W.dret hX.1 hX.2.1 (hX.2.2.2.1.trans hR) (fun t ht _ => ⟨rfl, ht⟩) hf dec hX.2.2.2.2.1)
theorem zV_areturn {v : Value} {ty : FieldType} (dec : decode (yC y) pc = .ok (.areturn, 1)) (hR : yR y = some ty) (hrt : (∃ n, ty = .object n) ∨ ∃ t, ty = .array t) (hv : v = .null ∨ ∃ a, v = .ref a) (hq : Q (.inl (some v)) h) : zV G y d pc lv [v] h Q :=
  zV.ret hq (fun w1 w e => by cases e; exact zw_hd w1) (fun hX hf => W.aret hX.1 hX.2.1 (hX.2.2.2.1.trans hR) hrt (by rcases hv with e | ⟨a, e⟩ <;> subst e <;> first | exact Or.inl rfl | exact Or.inr ⟨_, rfl⟩) (fun t ht _ => ⟨rfl, ht⟩) hf dec hX.2.2.2.2.1)
theorem zV_return (dec : decode (yC y) pc = .ok (.return_, 1)) (hR : yR y = none) (hq : Q (.inl none) h) : zV G y d pc lv [] h Q :=
  zV.ret hq (fun _ w e => by cases e) (fun hX hf => W.vret hX.1 hX.2.1 (hX.2.2.2.1.trans hR) (fun t ht _ => ⟨rfl, ht⟩) hf dec hX.2.2.2.2.1)
end ZA
