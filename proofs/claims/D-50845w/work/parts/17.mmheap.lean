/-! ===== MM: rules of the instructions that read and write the heap (printed by gen/mkheap.py) ===== -/
set_option maxRecDepth 100000
theorem zCl_in : ∀ (ci : Nat) (q : vw_C), zCl[ci]? = some q → ∀ w ∈ u_ws q.1 q.2.1 q.2.2, w ∈ lw_all := fun ci q hq => match ci, hq with
  | 0, hq => by cases hq; exact in_X1
  | 1, hq => by cases hq; exact in_X2
  | 2, hq => by cases hq; exact in_X3
  | 3, hq => by cases hq; exact in_X4
  | 4, hq => by cases hq; exact in_X5
  | 5, hq => by cases hq; exact in_X6
  | 6, hq => by cases hq; exact in_X7
  | 7, hq => by cases hq; exact in_X9
  | 8, hq => by cases hq; exact in_X10
  | 9, hq => by cases hq; exact in_J17
  | 10, hq => by cases hq; exact in_J6
  | 11, hq => by cases hq; exact in_J7
  | 12, hq => by cases hq; exact (fun w hw => by cases hw)
  | 13, hq => by cases hq; exact (fun w hw => by cases hw)
  | 14, hq => by cases hq; exact (fun w hw => by cases hw)
  | 15, hq => by cases hq; exact (fun w hw => by cases hw)
  | 16, hq => by cases hq; exact (fun w hw => by cases hw)
  | k + 17, hq => by simp [zCl] at hq
theorem zTy_ok : ∀ (ci : Nat) (q : vw_C), zCl[ci]? = some q → ∀ k, k < q.2.2 → parseFieldDescriptor (q.2.1 k).2.2.1 = some (zTy ci k) := fun ci q hq => match ci, hq with
  | 0, hq => by cases hq; exact tyX1_ok
  | 1, hq => by cases hq; exact tyX2_ok
  | 2, hq => by cases hq; exact tyX3_ok
  | 3, hq => by cases hq; exact tyX4_ok
  | 4, hq => by cases hq; exact tyX5_ok
  | 5, hq => by cases hq; exact tyX6_ok
  | 6, hq => by cases hq; exact tyX7_ok
  | 7, hq => by cases hq; exact tyX9_ok
  | 8, hq => by cases hq; exact tyX10_ok
  | 9, hq => by cases hq; exact tyJ17_ok
  | 10, hq => by cases hq; exact tyJ6_ok
  | 11, hq => by cases hq; exact tyJ7_ok
  | 12, hq => by cases hq; exact (fun k hk => absurd hk (Nat.not_lt_zero _))
  | 13, hq => by cases hq; exact (fun k hk => absurd hk (Nat.not_lt_zero _))
  | 14, hq => by cases hq; exact (fun k hk => absurd hk (Nat.not_lt_zero _))
  | 15, hq => by cases hq; exact (fun k hk => absurd hk (Nat.not_lt_zero _))
  | 16, hq => by cases hq; exact (fun k hk => absurd hk (Nat.not_lt_zero _))
  | k + 17, hq => by simp [zCl] at hq
theorem zNm : ∀ (ci : Nat) (q : vw_C), zCl[ci]? = some q → ∀ a, a < q.2.2 → ∀ b, b < q.2.2 → a ≠ b → (q.2.1 a).2.1 ≠ (q.2.1 b).2.1 := fun ci q hq => match ci, hq with
  | 0, hq => by cases hq; exact nmX1
  | 1, hq => by cases hq; exact nmX2
  | 2, hq => by cases hq; exact nmX3
  | 3, hq => by cases hq; exact nmX4
  | 4, hq => by cases hq; exact nmX5
  | 5, hq => by cases hq; exact nmX6
  | 6, hq => by cases hq; exact nmX7
  | 7, hq => by cases hq; exact nmX9
  | 8, hq => by cases hq; exact nmX10
  | 9, hq => by cases hq; exact nmJ17
  | 10, hq => by cases hq; exact nmJ6
  | 11, hq => by cases hq; exact nmJ7
  | 12, hq => by cases hq; exact (fun k hk => absurd hk (Nat.not_lt_zero _))
  | 13, hq => by cases hq; exact (fun k hk => absurd hk (Nat.not_lt_zero _))
  | 14, hq => by cases hq; exact (fun k hk => absurd hk (Nat.not_lt_zero _))
  | 15, hq => by cases hq; exact (fun k hk => absurd hk (Nat.not_lt_zero _))
  | 16, hq => by cases hq; exact (fun k hk => absurd hk (Nat.not_lt_zero _))
  | k + 17, hq => by simp [zCl] at hq
theorem zTys_at (G : zG) {t : Nat} (ht : t < 7) : (zTys G)[t]? = some (gA G t, zat t) := by
  simp only [zTys, List.getElem?_map, List.getElem?_range ht, Option.map_some]
theorem zin_lt {i : Int32} {n : Nat} (h : vp_in i n) : i.toNatClampNeg < n := Nat.not_le.mp fun q => h (Or.inr q)
theorem zV0_eqk {h h1 : zH} {a j : Nat} (e : zI h1 a j = zI h a j ∧ zR h1 a j = zR h a j ∧ zL h1 a j = zL h a j ∧ zD h1 a j = zD h a j) (ty : FieldType) : zV0 h1 a j ty = zV0 h a j ty := by
  obtain ⟨e1, e2, e3, e4⟩ := e
  cases ty <;> simp only [zV0, e1, e2, e3, e4]
section ZH
variable {G : zG} {y : zY} {d pc : Nat} {lv : List (Nat × Value)} {st : List Value} {h : zH} {Q : zO → zH → Prop}
/-- an instruction that reads the heap -/
theorem zV.read {pc' : Nat} {st' : List Value} (hw : (∀ v ∈ st, zw (zN h) v) → (∀ a, a < zN h → ∀ j x, zR h a j = some x → x < zN h) → ∀ v ∈ st', zw (zN h) v)
    (H0 : ∀ {p : Program} {e : Env} {R : Room} {s : State} {m : MethodId} {args : Array Value} {below : List Frame} {meth : Method} {c : Code} {H : Heap} {locs : List Loc} {cells slots : Nat} {P : State → Prop} {ρ : Nat → Nat} {ls : Array Slot}, zX G y d p e R s m args below meth c → zS G ρ h H → va_S (zA G) s.heap H locs → lv_has ls (yL y) (lv.map (zel ρ)) → (∀ v ∈ st, zw (zN h) v) →
      W p (gL G) e R s m args below meth c H locs cells slots P (F0 m pc' ls (st'.map (ze ρ))) → W p (gL G) e R s m args below meth c H locs cells slots P (F0 m pc ls (st.map (ze ρ))))
    (k : zV G y d pc' lv st' h Q) : zV G y d pc lv st h Q := by
  obtain ⟨r, h', a, b, k⟩ := k
  exact ⟨r, h', a, b, fun p e R s m args below meth c ρ H locs cells slots mc ms ls hX hS hF hl w1 w2 i1 i2 i3 i4 => H0 hX hS hF hl w1 (k p e R s m args below meth c ρ H locs cells slots mc ms ls hX hS hF hl (hw w1 hS.2.2.2.2.1) w2 i1 i2 i3 i4)⟩
/-- an instruction that writes into the cell a -/
theorem zV.write {pc' a i0 : Nat} {st' : List Value} {h1 : zH} (ha : 64 ≤ a) (hn : zN h1 = zN h) (hc : zC h1 = zC h) (hu : zU h1 = zU h) (hle : zLe h h1) (hsame : ∀ b, b ≠ a → zEq h h1 b) (hw : (∀ v ∈ st, zw (zN h) v) → ∀ v ∈ st', zw (zN h) v) (haN : (∀ v ∈ st, zw (zN h) v) → a < zN h)
    (hcl : (∀ v ∈ st, zw (zN h) v) → (∀ a, a < zN h → ∀ j x, zR h a j = some x → x < zN h) → a < zN h → ∀ j x, zR h1 a j = some x → x < zN h)
    (H0 : ∀ {p : Program} {e : Env} {R : Room} {s : State} {m : MethodId} {args : Array Value} {below : List Frame} {meth : Method} {c : Code} {H : Heap} {locs : List Loc} {cells slots : Nat} {P : State → Prop} {ρ : Nat → Nat} {ls : Array Slot}, zX G y d p e R s m args below meth c → zS G ρ h H → (∀ v ∈ st, zw (zN h) v) → a < zN h →
      (∀ (H1 : Heap) (i0 : Nat), H1.size = H.size → (∀ q : Nat, q ≠ ρ a → H1[q]? = H[q]?) → zAt G ρ h1 a H1 → W p (gL G) e R s m args below meth c H1 (locs ++ [⟨ρ a, i0⟩]) cells slots P (F0 m pc' ls (st'.map (ze ρ)))) → W p (gL G) e R s m args below meth c H locs cells slots P (F0 m pc ls (st.map (ze ρ))))
    (k : zV G y d pc' lv st' h1 Q) : zV G y d pc lv st h Q := by
  obtain ⟨r, h', a0, b, k⟩ := k
  refine ⟨r, h', a0, hle.tr b, fun p e R s m args below meth c ρ H locs cells slots mc ms ls hX hS hF hl w1 w2 i1 i2 i3 i4 => ?_⟩
  have haN := haN w1
  refine H0 hX hS w1 haN fun H1 i0 hz ho hat => ?_
  have hS1 := zS_put hS ha haN hz ho hn hsame (hcl w1 hS.2.2.2.2.1 haN) hat
  have := k p e R s m args below meth c ρ H1 (locs ++ [⟨ρ a, i0⟩]) cells slots mc ms ls hX hS1 (hF.put hz ho (hS.2.2.2.1 a ha haN)) hl (by rw [hn]; exact hw w1) (by rw [hn]; exact w2) (by rw [hc]; exact i1) (by rw [hu]; exact i2) i3 i4
  rw [hn] at this
  exact this
/-- an instruction that makes a cell -/
theorem zV.make {pc' kd n sl : Nat} {st' : List Value} (hw : (∀ v ∈ st, zw (zN h) v) → ∀ v ∈ st', zw (zN h) v)
    (H0 : ∀ {p : Program} {e : Env} {R : Room} {s : State} {m : MethodId} {args : Array Value} {below : List Frame} {meth : Method} {c : Code} {H : Heap} {locs : List Loc} {cells slots : Nat} {P : State → Prop} {ρ : Nat → Nat} {ls : Array Slot}, zX G y d p e R s m args below meth c → zS G ρ h H → va_S (zA G) s.heap H locs → (∀ v ∈ st, zw (zN h) v) → cells + 1 ≤ R.cells → slots + sl ≤ R.slots →
      (∀ (H1 : Heap), H1.size = H.size + 1 → (∀ q : Nat, q < H.size → H1[q]? = H[q]?) → (∀ ρ' : Nat → Nat, (∀ a, a < zN h → ρ' a = ρ a) → ρ' (zN h) = H.size → zAt G ρ' (sN h kd n sl) (zN h) H1) → W p (gL G) e R s m args below meth c H1 locs (cells + 1) (slots + sl) P (F0 m pc' ls (.ref H.size :: st'.map (ze ρ)))) → W p (gL G) e R s m args below meth c H locs cells slots P (F0 m pc ls (st.map (ze ρ))))
    (k : 64 ≤ zN h → zV G y d pc' lv (.ref (zN h) :: st') (sN h kd n sl) Q) (h64 : 64 ≤ zN h) : zV G y d pc lv st h Q := by
  obtain ⟨r, h', a0, b, k⟩ := k h64
  have hle := zLe_sN (k := kd) (n := n) (sl := sl) h64
  refine ⟨r, h', a0, hle.tr b, fun p e R s m args below meth c ρ H locs cells slots mc ms ls hX hS hF hl w1 w2 i1 i2 i3 i4 => ?_⟩
  have b2 : zC h + 1 ≤ zC h' := b.2.1
  have b3 : zU h + sl ≤ zU h' := b.2.2.1
  refine H0 hX hS hF w1 (by omega) (by omega) fun H1 hz ho hat => ?_
  have hr : ∀ a, a < zN h → (fun b => if b = zN h then H.size else ρ b) a = ρ a := fun a ha => if_neg (by omega)
  have hq : (fun b => if b = zN h then H.size else ρ b) (zN h) = H.size := if_pos rfl
  generalize (fun b => if b = zN h then H.size else ρ b) = ρ' at hr hq
  have hS1 := zS_new hS (Nat.le_trans hX.2.2.2.2.2.2.2.2.2.1 hF.1) hr hq hz ho (hat ρ' hr hq)
  have K := k p e R s m args below meth c ρ' H1 locs (cells + 1) (slots + sl) mc ms ls hX hS1 ⟨Nat.le_trans hF.1 (by omega), fun q h1 h2 => (ho q (Nat.lt_of_lt_of_le h1 hF.1)).trans (hF.2.1 q h1 h2), hF.2.2⟩ (by rw [zel_agree hr w2]; exact hl)
    (fun v hv => by
      rcases List.mem_cons.mp hv with e | e
      · rw [e]; exact zw_ref (Nat.lt_succ_self _)
      · exact zw_mono (hw w1 v e) (Nat.le_succ _)) (fun q hq => zw_mono (w2 q hq) (Nat.le_succ _)) (by show cells + 1 + (zC h' - (zC h + 1)) ≤ mc; omega) (by show slots + sl + (zU h' - (zU h + sl)) ≤ ms; omega) i3 i4
  have e1 : (Value.ref (zN h) :: st').map (ze ρ') = .ref H.size :: st'.map (ze ρ) := by
    rw [List.map_cons, zes_agree hr (hw w1)]
    show Value.ref (ρ' (zN h)) :: _ = _
    rw [hq]
  rw [e1] at K
  exact zW_mono (zEnd_mono (Nat.le_succ _) hr) K
theorem zV_getf {a ci i : Nat} {q : vw_C} {v : Value} (k : Nat) (dec : decode (yC y) pc = .ok (.getfield i, 3)) (hl : Cond.fieldLink (yN y).cls i (q.2.1 k).1 (q.2.1 k).2.1 (q.2.1 k).2.2.1 ∈ lw_all) (hk : zK h a = ci) (hc : zCl[ci]? = some q) (hkN : k < q.2.2) (hv : zV0 h a k (zTy ci k) = v) (h40 : ci < 40) (kk : zV G y d (pc + 3) lv (v :: st) h Q) : zV G y d pc lv (.ref a :: st) h Q := by
  subst hv; subst hk
  refine zV.read (fun w1 hcl => zw_cons (zw_V0 fun x hx => hcl a (zw_hd w1 a rfl) k x hx) (zw_tl w1)) (fun hX hS hF hl0 w1 kk => ?_) kk
  obtain ⟨r, h1, cell, q1, q2, q3, q4⟩ := (hS.2.2.1 a (zw_hd w1 a rfl)).1.1 h40
  cases h1.symm.trans hc
  have hts := hX.2.2.2.2.2.2.2.1
  have hI := hX.2.2.2.2.2.2.2.2.1
  obtain ⟨hSl, hfc, kC, hkC, hkind⟩ := hI.1.1 _ _ hc
  obtain ⟨cf, kf, fi, f, hi, hsl⟩ := hSl k hkN
  exact W.getf hX.1 hX.2.1 hX.2.2.2.2.2.1 (hts _ hl) ((fun _ e => e) _ hi) (u_facts hfc hkC (u_lays hts (zCl_in _ _ hc) hkN) hi).1 q1 (by rw [q3]; exact fun h => by cases h) (by rw [hsl]; exact q4 k hkN) rfl rfl dec kk
theorem zV_getfN {a ci i : Nat} {q : vw_C} {v : Value} {host : String} (k : Nat) (dec : decode (yC y) pc = .ok (.getfield i, 3)) (hl : Cond.fieldLinkNest (yN y).cls i (q.2.1 k).1 (q.2.1 k).2.1 (q.2.1 k).2.2.1 host ∈ zNest) (hk : zK h a = ci) (hc : zCl[ci]? = some q) (hkN : k < q.2.2) (hv : zV0 h a k (zTy ci k) = v) (h40 : ci < 40) (kk : zV G y d (pc + 3) lv (v :: st) h Q) : zV G y d pc lv (.ref a :: st) h Q := by
  subst hv; subst hk
  refine zV.read (fun w1 hcl => zw_cons (zw_V0 fun x hx => hcl a (zw_hd w1 a rfl) k x hx) (zw_tl w1)) (fun hX hS hF hl0 w1 kk => ?_) kk
  obtain ⟨r, h1, cell, q1, q2, q3, q4⟩ := (hS.2.2.1 a (zw_hd w1 a rfl)).1.1 h40
  cases h1.symm.trans hc
  have hts := hX.2.2.2.2.2.2.2.1
  have hI := hX.2.2.2.2.2.2.2.2.1
  obtain ⟨hSl, hfc, kC, hkC, hkind⟩ := hI.1.1 _ _ hc
  obtain ⟨cf, kf, fi, f, hi, hsl⟩ := hSl k hkN
  exact va_Wgetf hX.1 hX.2.1 hX.2.2.2.2.2.1 (va_Nw.use rfl (hI.2.1 _ hl)) ((fun _ e => e) _ hi) (u_facts hfc hkC (u_lays hts (zCl_in _ _ hc) hkN) hi).1 q1 (by rw [q3]; exact fun h => by cases h) (by rw [hsl]; exact q4 k hkN) rfl rfl dec kk
theorem z_apart {s : State} {args : Array Value} {ci : Nat} {q : vw_C} (hts : ∀ w ∈ lw_all, w.before args s = true) (hI : zInv G s) (hc : zCl[ci]? = some q) : ∀ x w, x < q.2.2 → w < q.2.2 → x ≠ w → (gD G).2 ci x ≠ (gD G).2 ci w :=
  va_apart (own := "") (args := args) (C := q.1) (T := q.2.1) (N := q.2.2) hts (zCl_in _ _ hc) (zTy ci) (zTy_ok _ _ hc) (zNm _ _ hc) hI.1 hc
theorem z_putAt {ρ : Nat → Nat} {h1 : zH} {a ci k : Nat} {q : vw_C} {cell : Cell} {H1 : Heap} {v : Value} (hc : zCl[ci]? = some q) (hk : zK h a = ci) (h40 : ci < 40) (hk1 : zK h1 a = zK h a) (q2 : cell.cls = (gD G).1 ci) (q3 : cell.vm = .none)
    (q4 : ∀ j, j < q.2.2 → cell.slots[(gD G).2 ci j]? = some (ze ρ (zV0 h a j (zTy ci j)))) (hap : ∀ x w, x < q.2.2 → w < q.2.2 → x ≠ w → (gD G).2 ci x ≠ (gD G).2 ci w) (hkN : k < q.2.2) (e1 : H1[ρ a]? = some (cell.setSlot ((gD G).2 ci k) (ze ρ v)))
    (hv : ∀ j, j < q.2.2 → zV0 h1 a j (zTy ci j) = if j = k then v else zV0 h a j (zTy ci j)) : zAt G ρ h1 a H1 := by
  refine ⟨fun _ => ⟨q, by rw [hk1, hk]; exact hc, _, e1, by rw [hk1, hk]; exact q2, q3, fun j hj => ?_⟩, fun h1 h2 => by omega, fun h1 h2 => by omega⟩
  rw [hk1, hk]
  rw [t_set (iS := (gD G).2 ci) (V := fun j => ze ρ (zV0 h a j (zTy ci j))) q4 hap hkN (ze ρ v) j hj]
  show _ = some (ze ρ (zV0 h1 a j (zTy ci j)))
  rw [hv j hj]
  by_cases e : j = k
  · simp [updV, e]
  · simp [updV, e]
theorem zV_putI {a ci i : Nat} {q : vw_C} {x : Int32} (k : Nat) (dec : decode (yC y) pc = .ok (.putfield i, 3)) (hl : Cond.fieldLink (yN y).cls i (q.2.1 k).1 (q.2.1 k).2.1 (q.2.1 k).2.2.1 ∈ lw_all) (ha : 64 ≤ a) (hk : zK h a = ci) (hc : zCl[ci]? = some q) (hkN : k < q.2.2) (hfin : (q.2.1 k).2.2.2 = false) (hty : ∀ g b, zV0 g b k (zTy ci k) = .int (zI g b k)) (hnar : narrow (zTy ci k) (.int x) = .int x) (hfit : fits (zTy ci k) (.int x) = true) (h40 : ci < 40) (kk : zV G y d (pc + 3) lv st (sI h a k x) Q) : zV G y d pc lv (.int x :: .ref a :: st) h Q := by
  refine zV.write (h1 := sI h a k x) (a := a) (i0 := 0) ha rfl rfl rfl (zLe_sI ha) (fun b hb => ⟨rfl, rfl, (fun j => ⟨zu2_ne _ _ (fun w => hb w.1), rfl, rfl, rfl⟩)⟩) (fun w1 => zw_tl (zw_tl w1)) (fun w1 => zw_hd (zw_tl w1) a rfl) (fun _ hcl haN j x hx => hcl a haN j x hx) (fun {p e R s m args below meth c H locs cells slots P ρ ls} hX hS w1 haN kk => ?_) kk
  obtain ⟨r, h1, cell, q1, q2, q3, q4⟩ := (hS.2.2.1 a haN).1.1 (by rw [hk]; exact h40)
  rw [hk] at h1 q2 q4
  cases h1.symm.trans hc
  have hts := hX.2.2.2.2.2.2.2.1
  have hI := hX.2.2.2.2.2.2.2.2.1
  have hap := z_apart hts hI hc
  obtain ⟨hSl, hfc, kC, hkC, hkind⟩ := hI.1.1 _ _ hc
  obtain ⟨cf, kf, fi, f, hi, hsl⟩ := hSl k hkN
  have hlay := hts _ (zCl_in _ _ hc _ (u_in_lay hkN))
  unfold u_lay at hlay
  rw [if_neg (by rw [hfin]; decide)] at hlay
  have hst := (u_facts hfc hkC (u_lays hts (zCl_in _ _ hc) hkN) hi).1
  have h6 := u_store (v := ze ρ (.int x)) hfc hkC hkind hlay hi (zTy_ok _ _ hc k hkN) (hnar) (hfit)
  refine W.putK hX.1 hX.2.1 (f := f) ⟨hX.2.2.2.2.2.1, hts _ hl, ⟨_, _, _, hi⟩, hst⟩ (by rw [q2]; exact h6) q1 q3 (by rw [hsl]; exact k2_hasslot (q4 k hkN)) rfl rfl dec fun H' e1 e2 e3 => ?_
  rw [hsl] at e1
  refine kk H' _ e2 e3 (z_putAt hc hk h40 rfl q2 q3 q4 hap hkN e1 fun j hj => ?_)
  by_cases e : j = k
  · subst e
    rw [if_pos rfl, hty]
    show _ = _
    simp only [zI, sI, zu2_eq]
  · rw [if_neg e]
    refine zV0_eqk ?_ _
    exact ⟨zu2_ne _ _ (fun w => e w.2), rfl, rfl, rfl⟩
theorem zV_putIN {a ci i : Nat} {q : vw_C} {x : Int32} {host : String} (k : Nat) (dec : decode (yC y) pc = .ok (.putfield i, 3)) (hl : Cond.fieldLinkNest (yN y).cls i (q.2.1 k).1 (q.2.1 k).2.1 (q.2.1 k).2.2.1 host ∈ zNest) (ha : 64 ≤ a) (hk : zK h a = ci) (hc : zCl[ci]? = some q) (hkN : k < q.2.2) (hfin : (q.2.1 k).2.2.2 = false) (hty : ∀ g b, zV0 g b k (zTy ci k) = .int (zI g b k)) (hnar : narrow (zTy ci k) (.int x) = .int x) (hfit : fits (zTy ci k) (.int x) = true) (h40 : ci < 40) (kk : zV G y d (pc + 3) lv st (sI h a k x) Q) : zV G y d pc lv (.int x :: .ref a :: st) h Q := by
  refine zV.write (h1 := sI h a k x) (a := a) (i0 := 0) ha rfl rfl rfl (zLe_sI ha) (fun b hb => ⟨rfl, rfl, (fun j => ⟨zu2_ne _ _ (fun w => hb w.1), rfl, rfl, rfl⟩)⟩) (fun w1 => zw_tl (zw_tl w1)) (fun w1 => zw_hd (zw_tl w1) a rfl) (fun _ hcl haN j x hx => hcl a haN j x hx) (fun {p e R s m args below meth c H locs cells slots P ρ ls} hX hS w1 haN kk => ?_) kk
  obtain ⟨r, h1, cell, q1, q2, q3, q4⟩ := (hS.2.2.1 a haN).1.1 (by rw [hk]; exact h40)
  rw [hk] at h1 q2 q4
  cases h1.symm.trans hc
  have hts := hX.2.2.2.2.2.2.2.1
  have hI := hX.2.2.2.2.2.2.2.2.1
  have hap := z_apart hts hI hc
  obtain ⟨hSl, hfc, kC, hkC, hkind⟩ := hI.1.1 _ _ hc
  obtain ⟨cf, kf, fi, f, hi, hsl⟩ := hSl k hkN
  have hlay := hts _ (zCl_in _ _ hc _ (u_in_lay hkN))
  unfold u_lay at hlay
  rw [if_neg (by rw [hfin]; decide)] at hlay
  have hst := (u_facts hfc hkC (u_lays hts (zCl_in _ _ hc) hkN) hi).1
  have h6 := u_store (v := ze ρ (.int x)) hfc hkC hkind hlay hi (zTy_ok _ _ hc k hkN) (hnar) (hfit)
  refine va_WputK hX.1 hX.2.1 (f := f) hX.2.2.2.2.2.1 (va_Nw.use rfl (hI.2.1 _ hl)) hi hst (by rw [q2]; exact h6) q1 q3 (by rw [hsl]; exact k2_hasslot (q4 k hkN)) rfl rfl dec fun H' e1 e2 e3 => ?_
  rw [hsl] at e1
  refine kk H' _ e2 e3 (z_putAt hc hk h40 rfl q2 q3 q4 hap hkN e1 fun j hj => ?_)
  by_cases e : j = k
  · subst e
    rw [if_pos rfl, hty]
    show _ = _
    simp only [zI, sI, zu2_eq]
  · rw [if_neg e]
    refine zV0_eqk ?_ _
    exact ⟨zu2_ne _ _ (fun w => e w.2), rfl, rfl, rfl⟩
theorem zV_putIF {a ci i : Nat} {q : vw_C} {x : Int32} (k : Nat) (dec : decode (yC y) pc = .ok (.putfield i, 3)) (hl : Cond.fieldLink (yN y).cls i (q.2.1 k).1 (q.2.1 k).2.1 (q.2.1 k).2.2.1 ∈ lw_all) (ha : 64 ≤ a) (hk : zK h a = ci) (hc : zCl[ci]? = some q) (hkN : k < q.2.2) (hfin : (q.2.1 k).2.2.2 = true) (hinit : (yN y).name = "<init>") (hdecl : (q.2.1 k).1 = (yN y).cls) (hty : ∀ g b, zV0 g b k (zTy ci k) = .int (zI g b k)) (hnar : narrow (zTy ci k) (.int x) = .int x) (hfit : fits (zTy ci k) (.int x) = true) (h40 : ci < 40) (kk : zV G y d (pc + 3) lv st (sI h a k x) Q) : zV G y d pc lv (.int x :: .ref a :: st) h Q := by
  refine zV.write (h1 := sI h a k x) (a := a) (i0 := 0) ha rfl rfl rfl (zLe_sI ha) (fun b hb => ⟨rfl, rfl, (fun j => ⟨zu2_ne _ _ (fun w => hb w.1), rfl, rfl, rfl⟩)⟩) (fun w1 => zw_tl (zw_tl w1)) (fun w1 => zw_hd (zw_tl w1) a rfl) (fun _ hcl haN j x hx => hcl a haN j x hx) (fun {p e R s m args below meth c H locs cells slots P ρ ls} hX hS w1 haN kk => ?_) kk
  obtain ⟨r, h1, cell, q1, q2, q3, q4⟩ := (hS.2.2.1 a haN).1.1 (by rw [hk]; exact h40)
  rw [hk] at h1 q2 q4
  cases h1.symm.trans hc
  have hts := hX.2.2.2.2.2.2.2.1
  have hI := hX.2.2.2.2.2.2.2.2.1
  have hap := z_apart hts hI hc
  obtain ⟨hSl, hfc, kC, hkC, hkind⟩ := hI.1.1 _ _ hc
  obtain ⟨cf, kf, fi, f, hi, hsl⟩ := hSl k hkN
  have hlay := hts _ (zCl_in _ _ hc _ (u_in_lay hkN))
  unfold u_lay at hlay
  rw [if_pos hfin] at hlay
  have hst := (u_facts hfc hkC (u_lays hts (zCl_in _ _ hc) hkN) hi).1
  have hcf : m.cls = cf := by
    obtain ⟨_, _, c', _, _, _, -, -, hf', -, -, -, hown2, -⟩ := Cond.laysFinal_spec hlay
    have e1 : c' = cf := by have := hi.symm.trans hf'; simp at this; exact this.1.symm
    rw [hdecl] at hown2
    rw [← e1]; exact Option.some.inj (hX.2.2.2.2.2.1.symm.trans hown2)
  have h6 := u_fits (v := ze ρ (.int x)) hfc hkC hkind (Or.inr hlay) hi (zTy_ok _ _ hc k hkN) (hnar) (hfit)
  refine W.putFinK hX.1 hX.2.1 hX.2.2.2.2.2.1 (hts _ hl) hi hst hcf (hX.2.2.2.2.2.2.1.trans hinit) (by rw [q2]; exact h6) q1 q3 (by rw [hsl]; exact k2_hasslot (q4 k hkN)) rfl rfl dec fun H' e1 e2 e3 => ?_
  rw [hsl] at e1
  refine kk H' _ e2 e3 (z_putAt hc hk h40 rfl q2 q3 q4 hap hkN e1 fun j hj => ?_)
  by_cases e : j = k
  · subst e
    rw [if_pos rfl, hty]
    show _ = _
    simp only [zI, sI, zu2_eq]
  · rw [if_neg e]
    refine zV0_eqk ?_ _
    exact ⟨zu2_ne _ _ (fun w => e w.2), rfl, rfl, rfl⟩
theorem zV_putR {a ci i : Nat} {q : vw_C} {x : Option Nat} (k : Nat) (dec : decode (yC y) pc = .ok (.putfield i, 3)) (hl : Cond.fieldLink (yN y).cls i (q.2.1 k).1 (q.2.1 k).2.1 (q.2.1 k).2.2.1 ∈ lw_all) (ha : 64 ≤ a) (hk : zK h a = ci) (hc : zCl[ci]? = some q) (hkN : k < q.2.2) (hfin : (q.2.1 k).2.2.2 = false) (hty : ∀ g b, zV0 g b k (zTy ci k) = va_rf (zR g b k)) (hrt : (∃ n, zTy ci k = .object n) ∨ ∃ t, zTy ci k = .array t) (h40 : ci < 40) (kk : zV G y d (pc + 3) lv st (sR h a k x) Q) : zV G y d pc lv (va_rf x :: .ref a :: st) h Q := by
  refine zV.write (h1 := sR h a k x) (a := a) (i0 := 0) ha rfl rfl rfl (zLe_sR ha) (fun b hb => ⟨rfl, rfl, (fun j => ⟨rfl, zu2_ne _ _ (fun w => hb w.1), rfl, rfl⟩)⟩) (fun w1 => zw_tl (zw_tl w1)) (fun w1 => zw_hd (zw_tl w1) a rfl) (fun w1 hcl haN j z hz => by
      by_cases e : j = k
      · subst e
        have hz2 : zu2 (zR h) a j x a j = some z := hz
        rw [zu2_eq] at hz2
        subst hz2
        exact zw_hd w1 z rfl
      · have hz2 : zu2 (zR h) a k x a j = some z := hz
        rw [zu2_ne _ _ (fun w => e w.2)] at hz2
        exact hcl a haN j z hz2) (fun {p e R s m args below meth c H locs cells slots P ρ ls} hX hS w1 haN kk => ?_) kk
  obtain ⟨r, h1, cell, q1, q2, q3, q4⟩ := (hS.2.2.1 a haN).1.1 (by rw [hk]; exact h40)
  rw [hk] at h1 q2 q4
  cases h1.symm.trans hc
  have hts := hX.2.2.2.2.2.2.2.1
  have hI := hX.2.2.2.2.2.2.2.2.1
  have hap := z_apart hts hI hc
  obtain ⟨hSl, hfc, kC, hkC, hkind⟩ := hI.1.1 _ _ hc
  obtain ⟨cf, kf, fi, f, hi, hsl⟩ := hSl k hkN
  have hlay := hts _ (zCl_in _ _ hc _ (u_in_lay hkN))
  unfold u_lay at hlay
  rw [if_neg (by rw [hfin]; decide)] at hlay
  have hst := (u_facts hfc hkC (u_lays hts (zCl_in _ _ hc) hkN) hi).1
  have h6 := u_store (v := ze ρ (va_rf x)) hfc hkC hkind hlay hi (zTy_ok _ _ hc k hkN) (by rcases hrt with ⟨n, e⟩ | ⟨t, e⟩ <;> rw [e] <;> cases x <;> rfl) (by rcases hrt with ⟨n, e⟩ | ⟨t, e⟩ <;> rw [e] <;> cases x <;> rfl)
  refine W.putK hX.1 hX.2.1 (f := f) ⟨hX.2.2.2.2.2.1, hts _ hl, ⟨_, _, _, hi⟩, hst⟩ (by rw [q2]; exact h6) q1 q3 (by rw [hsl]; exact k2_hasslot (q4 k hkN)) rfl rfl dec fun H' e1 e2 e3 => ?_
  rw [hsl] at e1
  refine kk H' _ e2 e3 (z_putAt hc hk h40 rfl q2 q3 q4 hap hkN e1 fun j hj => ?_)
  by_cases e : j = k
  · subst e
    rw [if_pos rfl, hty]
    show _ = _
    simp only [zR, sR, zu2_eq]
  · rw [if_neg e]
    refine zV0_eqk ?_ _
    exact ⟨rfl, zu2_ne _ _ (fun w => e w.2), rfl, rfl⟩
theorem zV_putRN {a ci i : Nat} {q : vw_C} {x : Option Nat} {host : String} (k : Nat) (dec : decode (yC y) pc = .ok (.putfield i, 3)) (hl : Cond.fieldLinkNest (yN y).cls i (q.2.1 k).1 (q.2.1 k).2.1 (q.2.1 k).2.2.1 host ∈ zNest) (ha : 64 ≤ a) (hk : zK h a = ci) (hc : zCl[ci]? = some q) (hkN : k < q.2.2) (hfin : (q.2.1 k).2.2.2 = false) (hty : ∀ g b, zV0 g b k (zTy ci k) = va_rf (zR g b k)) (hrt : (∃ n, zTy ci k = .object n) ∨ ∃ t, zTy ci k = .array t) (h40 : ci < 40) (kk : zV G y d (pc + 3) lv st (sR h a k x) Q) : zV G y d pc lv (va_rf x :: .ref a :: st) h Q := by
  refine zV.write (h1 := sR h a k x) (a := a) (i0 := 0) ha rfl rfl rfl (zLe_sR ha) (fun b hb => ⟨rfl, rfl, (fun j => ⟨rfl, zu2_ne _ _ (fun w => hb w.1), rfl, rfl⟩)⟩) (fun w1 => zw_tl (zw_tl w1)) (fun w1 => zw_hd (zw_tl w1) a rfl) (fun w1 hcl haN j z hz => by
      by_cases e : j = k
      · subst e
        have hz2 : zu2 (zR h) a j x a j = some z := hz
        rw [zu2_eq] at hz2
        subst hz2
        exact zw_hd w1 z rfl
      · have hz2 : zu2 (zR h) a k x a j = some z := hz
        rw [zu2_ne _ _ (fun w => e w.2)] at hz2
        exact hcl a haN j z hz2) (fun {p e R s m args below meth c H locs cells slots P ρ ls} hX hS w1 haN kk => ?_) kk
  obtain ⟨r, h1, cell, q1, q2, q3, q4⟩ := (hS.2.2.1 a haN).1.1 (by rw [hk]; exact h40)
  rw [hk] at h1 q2 q4
  cases h1.symm.trans hc
  have hts := hX.2.2.2.2.2.2.2.1
  have hI := hX.2.2.2.2.2.2.2.2.1
  have hap := z_apart hts hI hc
  obtain ⟨hSl, hfc, kC, hkC, hkind⟩ := hI.1.1 _ _ hc
  obtain ⟨cf, kf, fi, f, hi, hsl⟩ := hSl k hkN
  have hlay := hts _ (zCl_in _ _ hc _ (u_in_lay hkN))
  unfold u_lay at hlay
  rw [if_neg (by rw [hfin]; decide)] at hlay
  have hst := (u_facts hfc hkC (u_lays hts (zCl_in _ _ hc) hkN) hi).1
  have h6 := u_store (v := ze ρ (va_rf x)) hfc hkC hkind hlay hi (zTy_ok _ _ hc k hkN) (by rcases hrt with ⟨n, e⟩ | ⟨t, e⟩ <;> rw [e] <;> cases x <;> rfl) (by rcases hrt with ⟨n, e⟩ | ⟨t, e⟩ <;> rw [e] <;> cases x <;> rfl)
  refine va_WputK hX.1 hX.2.1 (f := f) hX.2.2.2.2.2.1 (va_Nw.use rfl (hI.2.1 _ hl)) hi hst (by rw [q2]; exact h6) q1 q3 (by rw [hsl]; exact k2_hasslot (q4 k hkN)) rfl rfl dec fun H' e1 e2 e3 => ?_
  rw [hsl] at e1
  refine kk H' _ e2 e3 (z_putAt hc hk h40 rfl q2 q3 q4 hap hkN e1 fun j hj => ?_)
  by_cases e : j = k
  · subst e
    rw [if_pos rfl, hty]
    show _ = _
    simp only [zR, sR, zu2_eq]
  · rw [if_neg e]
    refine zV0_eqk ?_ _
    exact ⟨rfl, zu2_ne _ _ (fun w => e w.2), rfl, rfl⟩
theorem zV_putRF {a ci i : Nat} {q : vw_C} {x : Option Nat} (k : Nat) (dec : decode (yC y) pc = .ok (.putfield i, 3)) (hl : Cond.fieldLink (yN y).cls i (q.2.1 k).1 (q.2.1 k).2.1 (q.2.1 k).2.2.1 ∈ lw_all) (ha : 64 ≤ a) (hk : zK h a = ci) (hc : zCl[ci]? = some q) (hkN : k < q.2.2) (hfin : (q.2.1 k).2.2.2 = true) (hinit : (yN y).name = "<init>") (hdecl : (q.2.1 k).1 = (yN y).cls) (hty : ∀ g b, zV0 g b k (zTy ci k) = va_rf (zR g b k)) (hrt : (∃ n, zTy ci k = .object n) ∨ ∃ t, zTy ci k = .array t) (h40 : ci < 40) (kk : zV G y d (pc + 3) lv st (sR h a k x) Q) : zV G y d pc lv (va_rf x :: .ref a :: st) h Q := by
  refine zV.write (h1 := sR h a k x) (a := a) (i0 := 0) ha rfl rfl rfl (zLe_sR ha) (fun b hb => ⟨rfl, rfl, (fun j => ⟨rfl, zu2_ne _ _ (fun w => hb w.1), rfl, rfl⟩)⟩) (fun w1 => zw_tl (zw_tl w1)) (fun w1 => zw_hd (zw_tl w1) a rfl) (fun w1 hcl haN j z hz => by
      by_cases e : j = k
      · subst e
        have hz2 : zu2 (zR h) a j x a j = some z := hz
        rw [zu2_eq] at hz2
        subst hz2
        exact zw_hd w1 z rfl
      · have hz2 : zu2 (zR h) a k x a j = some z := hz
        rw [zu2_ne _ _ (fun w => e w.2)] at hz2
        exact hcl a haN j z hz2) (fun {p e R s m args below meth c H locs cells slots P ρ ls} hX hS w1 haN kk => ?_) kk
  obtain ⟨r, h1, cell, q1, q2, q3, q4⟩ := (hS.2.2.1 a haN).1.1 (by rw [hk]; exact h40)
  rw [hk] at h1 q2 q4
  cases h1.symm.trans hc
  have hts := hX.2.2.2.2.2.2.2.1
  have hI := hX.2.2.2.2.2.2.2.2.1
  have hap := z_apart hts hI hc
  obtain ⟨hSl, hfc, kC, hkC, hkind⟩ := hI.1.1 _ _ hc
  obtain ⟨cf, kf, fi, f, hi, hsl⟩ := hSl k hkN
  have hlay := hts _ (zCl_in _ _ hc _ (u_in_lay hkN))
  unfold u_lay at hlay
  rw [if_pos hfin] at hlay
  have hst := (u_facts hfc hkC (u_lays hts (zCl_in _ _ hc) hkN) hi).1
  have hcf : m.cls = cf := by
    obtain ⟨_, _, c', _, _, _, -, -, hf', -, -, -, hown2, -⟩ := Cond.laysFinal_spec hlay
    have e1 : c' = cf := by have := hi.symm.trans hf'; simp at this; exact this.1.symm
    rw [hdecl] at hown2
    rw [← e1]; exact Option.some.inj (hX.2.2.2.2.2.1.symm.trans hown2)
  have h6 := u_fits (v := ze ρ (va_rf x)) hfc hkC hkind (Or.inr hlay) hi (zTy_ok _ _ hc k hkN) (by rcases hrt with ⟨n, e⟩ | ⟨t, e⟩ <;> rw [e] <;> cases x <;> rfl) (by rcases hrt with ⟨n, e⟩ | ⟨t, e⟩ <;> rw [e] <;> cases x <;> rfl)
  refine W.putFinK hX.1 hX.2.1 hX.2.2.2.2.2.1 (hts _ hl) hi hst hcf (hX.2.2.2.2.2.2.1.trans hinit) (by rw [q2]; exact h6) q1 q3 (by rw [hsl]; exact k2_hasslot (q4 k hkN)) rfl rfl dec fun H' e1 e2 e3 => ?_
  rw [hsl] at e1
  refine kk H' _ e2 e3 (z_putAt hc hk h40 rfl q2 q3 q4 hap hkN e1 fun j hj => ?_)
  by_cases e : j = k
  · subst e
    rw [if_pos rfl, hty]
    show _ = _
    simp only [zR, sR, zu2_eq]
  · rw [if_neg e]
    refine zV0_eqk ?_ _
    exact ⟨rfl, zu2_ne _ _ (fun w => e w.2), rfl, rfl⟩
theorem zV_putL {a ci i : Nat} {q : vw_C} {x : Int64} (k : Nat) (dec : decode (yC y) pc = .ok (.putfield i, 3)) (hl : Cond.fieldLink (yN y).cls i (q.2.1 k).1 (q.2.1 k).2.1 (q.2.1 k).2.2.1 ∈ lw_all) (ha : 64 ≤ a) (hk : zK h a = ci) (hc : zCl[ci]? = some q) (hkN : k < q.2.2) (hfin : (q.2.1 k).2.2.2 = false) (hty : ∀ g b, zV0 g b k (zTy ci k) = .long (zL g b k)) (hnar : zTy ci k = .long) (h40 : ci < 40) (kk : zV G y d (pc + 3) lv st (sL h a k x) Q) : zV G y d pc lv (.long x :: .ref a :: st) h Q := by
  refine zV.write (h1 := sL h a k x) (a := a) (i0 := 0) ha rfl rfl rfl (zLe_sL ha) (fun b hb => ⟨rfl, rfl, (fun j => ⟨rfl, rfl, zu2_ne _ _ (fun w => hb w.1), rfl⟩)⟩) (fun w1 => zw_tl (zw_tl w1)) (fun w1 => zw_hd (zw_tl w1) a rfl) (fun _ hcl haN j x hx => hcl a haN j x hx) (fun {p e R s m args below meth c H locs cells slots P ρ ls} hX hS w1 haN kk => ?_) kk
  obtain ⟨r, h1, cell, q1, q2, q3, q4⟩ := (hS.2.2.1 a haN).1.1 (by rw [hk]; exact h40)
  rw [hk] at h1 q2 q4
  cases h1.symm.trans hc
  have hts := hX.2.2.2.2.2.2.2.1
  have hI := hX.2.2.2.2.2.2.2.2.1
  have hap := z_apart hts hI hc
  obtain ⟨hSl, hfc, kC, hkC, hkind⟩ := hI.1.1 _ _ hc
  obtain ⟨cf, kf, fi, f, hi, hsl⟩ := hSl k hkN
  have hlay := hts _ (zCl_in _ _ hc _ (u_in_lay hkN))
  unfold u_lay at hlay
  rw [if_neg (by rw [hfin]; decide)] at hlay
  have hst := (u_facts hfc hkC (u_lays hts (zCl_in _ _ hc) hkN) hi).1
  have h6 := u_store (v := ze ρ (.long x)) hfc hkC hkind hlay hi (zTy_ok _ _ hc k hkN) (by rw [hnar]; rfl) (by rw [hnar]; rfl)
  refine W.putK hX.1 hX.2.1 (f := f) ⟨hX.2.2.2.2.2.1, hts _ hl, ⟨_, _, _, hi⟩, hst⟩ (by rw [q2]; exact h6) q1 q3 (by rw [hsl]; exact k2_hasslot (q4 k hkN)) rfl rfl dec fun H' e1 e2 e3 => ?_
  rw [hsl] at e1
  refine kk H' _ e2 e3 (z_putAt hc hk h40 rfl q2 q3 q4 hap hkN e1 fun j hj => ?_)
  by_cases e : j = k
  · subst e
    rw [if_pos rfl, hty]
    show _ = _
    simp only [zL, sL, zu2_eq]
  · rw [if_neg e]
    refine zV0_eqk ?_ _
    exact ⟨rfl, rfl, zu2_ne _ _ (fun w => e w.2), rfl⟩
theorem zV_putLN {a ci i : Nat} {q : vw_C} {x : Int64} {host : String} (k : Nat) (dec : decode (yC y) pc = .ok (.putfield i, 3)) (hl : Cond.fieldLinkNest (yN y).cls i (q.2.1 k).1 (q.2.1 k).2.1 (q.2.1 k).2.2.1 host ∈ zNest) (ha : 64 ≤ a) (hk : zK h a = ci) (hc : zCl[ci]? = some q) (hkN : k < q.2.2) (hfin : (q.2.1 k).2.2.2 = false) (hty : ∀ g b, zV0 g b k (zTy ci k) = .long (zL g b k)) (hnar : zTy ci k = .long) (h40 : ci < 40) (kk : zV G y d (pc + 3) lv st (sL h a k x) Q) : zV G y d pc lv (.long x :: .ref a :: st) h Q := by
  refine zV.write (h1 := sL h a k x) (a := a) (i0 := 0) ha rfl rfl rfl (zLe_sL ha) (fun b hb => ⟨rfl, rfl, (fun j => ⟨rfl, rfl, zu2_ne _ _ (fun w => hb w.1), rfl⟩)⟩) (fun w1 => zw_tl (zw_tl w1)) (fun w1 => zw_hd (zw_tl w1) a rfl) (fun _ hcl haN j x hx => hcl a haN j x hx) (fun {p e R s m args below meth c H locs cells slots P ρ ls} hX hS w1 haN kk => ?_) kk
  obtain ⟨r, h1, cell, q1, q2, q3, q4⟩ := (hS.2.2.1 a haN).1.1 (by rw [hk]; exact h40)
  rw [hk] at h1 q2 q4
  cases h1.symm.trans hc
  have hts := hX.2.2.2.2.2.2.2.1
  have hI := hX.2.2.2.2.2.2.2.2.1
  have hap := z_apart hts hI hc
  obtain ⟨hSl, hfc, kC, hkC, hkind⟩ := hI.1.1 _ _ hc
  obtain ⟨cf, kf, fi, f, hi, hsl⟩ := hSl k hkN
  have hlay := hts _ (zCl_in _ _ hc _ (u_in_lay hkN))
  unfold u_lay at hlay
  rw [if_neg (by rw [hfin]; decide)] at hlay
  have hst := (u_facts hfc hkC (u_lays hts (zCl_in _ _ hc) hkN) hi).1
  have h6 := u_store (v := ze ρ (.long x)) hfc hkC hkind hlay hi (zTy_ok _ _ hc k hkN) (by rw [hnar]; rfl) (by rw [hnar]; rfl)
  refine va_WputK hX.1 hX.2.1 (f := f) hX.2.2.2.2.2.1 (va_Nw.use rfl (hI.2.1 _ hl)) hi hst (by rw [q2]; exact h6) q1 q3 (by rw [hsl]; exact k2_hasslot (q4 k hkN)) rfl rfl dec fun H' e1 e2 e3 => ?_
  rw [hsl] at e1
  refine kk H' _ e2 e3 (z_putAt hc hk h40 rfl q2 q3 q4 hap hkN e1 fun j hj => ?_)
  by_cases e : j = k
  · subst e
    rw [if_pos rfl, hty]
    show _ = _
    simp only [zL, sL, zu2_eq]
  · rw [if_neg e]
    refine zV0_eqk ?_ _
    exact ⟨rfl, rfl, zu2_ne _ _ (fun w => e w.2), rfl⟩
theorem zV_putLF {a ci i : Nat} {q : vw_C} {x : Int64} (k : Nat) (dec : decode (yC y) pc = .ok (.putfield i, 3)) (hl : Cond.fieldLink (yN y).cls i (q.2.1 k).1 (q.2.1 k).2.1 (q.2.1 k).2.2.1 ∈ lw_all) (ha : 64 ≤ a) (hk : zK h a = ci) (hc : zCl[ci]? = some q) (hkN : k < q.2.2) (hfin : (q.2.1 k).2.2.2 = true) (hinit : (yN y).name = "<init>") (hdecl : (q.2.1 k).1 = (yN y).cls) (hty : ∀ g b, zV0 g b k (zTy ci k) = .long (zL g b k)) (hnar : zTy ci k = .long) (h40 : ci < 40) (kk : zV G y d (pc + 3) lv st (sL h a k x) Q) : zV G y d pc lv (.long x :: .ref a :: st) h Q := by
  refine zV.write (h1 := sL h a k x) (a := a) (i0 := 0) ha rfl rfl rfl (zLe_sL ha) (fun b hb => ⟨rfl, rfl, (fun j => ⟨rfl, rfl, zu2_ne _ _ (fun w => hb w.1), rfl⟩)⟩) (fun w1 => zw_tl (zw_tl w1)) (fun w1 => zw_hd (zw_tl w1) a rfl) (fun _ hcl haN j x hx => hcl a haN j x hx) (fun {p e R s m args below meth c H locs cells slots P ρ ls} hX hS w1 haN kk => ?_) kk
  obtain ⟨r, h1, cell, q1, q2, q3, q4⟩ := (hS.2.2.1 a haN).1.1 (by rw [hk]; exact h40)
  rw [hk] at h1 q2 q4
  cases h1.symm.trans hc
  have hts := hX.2.2.2.2.2.2.2.1
  have hI := hX.2.2.2.2.2.2.2.2.1
  have hap := z_apart hts hI hc
  obtain ⟨hSl, hfc, kC, hkC, hkind⟩ := hI.1.1 _ _ hc
  obtain ⟨cf, kf, fi, f, hi, hsl⟩ := hSl k hkN
  have hlay := hts _ (zCl_in _ _ hc _ (u_in_lay hkN))
  unfold u_lay at hlay
  rw [if_pos hfin] at hlay
  have hst := (u_facts hfc hkC (u_lays hts (zCl_in _ _ hc) hkN) hi).1
  have hcf : m.cls = cf := by
    obtain ⟨_, _, c', _, _, _, -, -, hf', -, -, -, hown2, -⟩ := Cond.laysFinal_spec hlay
    have e1 : c' = cf := by have := hi.symm.trans hf'; simp at this; exact this.1.symm
    rw [hdecl] at hown2
    rw [← e1]; exact Option.some.inj (hX.2.2.2.2.2.1.symm.trans hown2)
  have h6 := u_fits (v := ze ρ (.long x)) hfc hkC hkind (Or.inr hlay) hi (zTy_ok _ _ hc k hkN) (by rw [hnar]; rfl) (by rw [hnar]; rfl)
  refine W.putFinK hX.1 hX.2.1 hX.2.2.2.2.2.1 (hts _ hl) hi hst hcf (hX.2.2.2.2.2.2.1.trans hinit) (by rw [q2]; exact h6) q1 q3 (by rw [hsl]; exact k2_hasslot (q4 k hkN)) rfl rfl dec fun H' e1 e2 e3 => ?_
  rw [hsl] at e1
  refine kk H' _ e2 e3 (z_putAt hc hk h40 rfl q2 q3 q4 hap hkN e1 fun j hj => ?_)
  by_cases e : j = k
  · subst e
    rw [if_pos rfl, hty]
    show _ = _
    simp only [zL, sL, zu2_eq]
  · rw [if_neg e]
    refine zV0_eqk ?_ _
    exact ⟨rfl, rfl, zu2_ne _ _ (fun w => e w.2), rfl⟩
end ZH
