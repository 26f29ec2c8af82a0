/-! ===== MM: the kinds of calls ===== -/
set_option maxRecDepth 100000
theorem z_recv {G : zG} {s : State} {ρ : Nat → Nat} {h : zH} {H : Heap} {a ci : Nat} {q : vw_C} (hI : zInv G s) (hS : zS G ρ h H) (ha : a < zN h) (hk : zK h a = ci) (hc : zCl[ci]? = some q) (h40 : ci < 40) : ∃ cell : Cell, H[ρ a]? = some cell ∧ cell.vm.isStatics = false ∧ s.vm.findClass q.1 = some cell.cls := by
  subst hk
  obtain ⟨r, h1, cell, h2, h3, h4, -⟩ := (hS.2.2.1 a ha).1.1 h40
  exact ⟨cell, h2, by rw [h4]; rfl, by rw [h3]; exact (hI.1.1 _ _ hc).2.1⟩
section ZC
variable {G : zG} {y y' : zY} {d d' pc idx : Nat} {lv : List (Nat × Value)} {st rest as : List Value} {h : zH} {P Q : zO → zH → Prop}
theorem zV_S (dec : decode (yC y) pc = .ok (.invokestatic idx, 3)) (hl : Cond.methodLink (yN y).cls idx (yN y') ∈ lw_all) (hs : Cond.static (yN y') ∈ lw_all) (hi : Cond.initialized (yN y').cls ∈ lw_all) (hz : zW y' ∈ lw_all) (hC : zM G y' d' as h P)
    (hst : st = as.reverse ++ rest) (hn : (parseMethodDescriptor (yN y').desc).map (fun d => d.parameters.length) = some as.length) (hd : d' < d) (hyL : yL y' ≤ 29) (hmh : (yN y').cls ≠ "java/lang/invoke/MethodHandle" ∧ (yN y').cls ≠ "java/lang/invoke/VarHandle") (hr : (rest.map fun v => v.category).sum ≤ 16)
    (k : ∀ r h1, P r h1 → zLe h h1 → match r with
      | .inl v => zV G y d (pc + 3) lv (v.toList ++ rest) h1 Q
      | .inr x => zT G y d pc lv rest x h1 Q) : zV G y d pc lv st h Q := by
  subst hst
  refine zV.call hC hd hyL hz hi (fun v hv => List.mem_append_left _ (List.mem_reverse.mpr hv)) (fun v hv => List.mem_append_right _ hv) ?_ k
  intro p e R s m args below meth c T locs cells slots ρ ls Pre Post PostX hX X hS hsz hK hpre w1
  obtain ⟨x1, x2, x3, x4, x5, x6, x7, hts, hI, hg, hfr, hlo, x8, x9⟩ := id hX
  have hlen : ∀ sig, parseMethodDescriptor (yN y').desc = some sig → (as.map (ze ρ)).length = sig.parameters.length := fun sig hsig => by
    rw [hsig] at hn
    rw [List.length_map]
    exact (Option.some.inj hn).symm
  have hst' : (F0 m pc ls ((as.reverse ++ rest).map (ze ρ))).stack = (as.map (ze ρ)).reverse ++ rest.map (ze ρ) := by
    show (as.reverse ++ rest).map (ze ρ) = _
    rw [List.map_append, List.map_reverse]
  have hW : 2 * (F0 m pc ls ((as.reverse ++ rest).map (ze ρ))).monitorRoom + ((rest.map (ze ρ)).map fun v => v.category).sum ≤ 16 := by
    rw [zcats]
    show 2 * 0 + _ ≤ 16
    omega
  have hw := hts _ hz
  unfold zW at hw
  cases hh : yH y' with
  | nil =>
    rw [hh] at hw
    exact vx_callS (bytes := yC y') (maxL := yL y') (ret := yR y') X x1 x6 (hts _ hl) (hts _ hs) (hts _ hi) hw hmh hK (g := F0 m pc ls ((as.reverse ++ rest).map (ze ρ))) rfl hsz hlen hst' hW (by rw [x2]; exact dec) hpre
  | cons a b =>
    rw [hh] at hw
    exact vx_callSX (bytes := yC y') (maxL := yL y') (ret := yR y') X x1 x6 (hts _ hl) (hts _ hs) (hts _ hi) hw hmh hK (g := F0 m pc ls ((as.reverse ++ rest).map (ze ρ))) rfl hsz hlen hst' hW (by rw [x2]; exact dec) hpre
/-- a static method of a nest mate -/
theorem zV_SN {host : String} (dec : decode (yC y) pc = .ok (.invokestatic idx, 3)) (hl : Cond.methodLinkNest (yN y).cls idx (yN y') host ∈ zNest) (hs : Cond.static (yN y') ∈ lw_all) (hi : Cond.initialized (yN y').cls ∈ lw_all) (hz : zW y' ∈ lw_all) (hC : zM G y' d' as h P)
    (hst : st = as.reverse ++ rest) (hn : (parseMethodDescriptor (yN y').desc).map (fun d => d.parameters.length) = some as.length) (hd : d' < d) (hyL : yL y' ≤ 29) (hmh : (yN y').cls ≠ "java/lang/invoke/MethodHandle" ∧ (yN y').cls ≠ "java/lang/invoke/VarHandle") (hr : (rest.map fun v => v.category).sum ≤ 16) (hH : yH y' = [])
    (k : ∀ r h1, P r h1 → zLe h h1 → match r with
      | .inl v => zV G y d (pc + 3) lv (v.toList ++ rest) h1 Q
      | .inr x => zT G y d pc lv rest x h1 Q) : zV G y d pc lv st h Q := by
  subst hst
  refine zV.call hC hd hyL hz hi (fun v hv => List.mem_append_left _ (List.mem_reverse.mpr hv)) (fun v hv => List.mem_append_right _ hv) ?_ k
  intro p e R s m args below meth c T locs cells slots ρ ls Pre Post PostX hX X hS hsz hK hpre w1
  obtain ⟨x1, x2, x3, x4, x5, x6, x7, hts, hI, hg, hfr, hlo, x8, x9⟩ := id hX
  have hlen : ∀ sig, parseMethodDescriptor (yN y').desc = some sig → (as.map (ze ρ)).length = sig.parameters.length := fun sig hsig => by
    rw [hsig] at hn
    rw [List.length_map]
    exact (Option.some.inj hn).symm
  have hst' : (F0 m pc ls ((as.reverse ++ rest).map (ze ρ))).stack = (as.map (ze ρ)).reverse ++ rest.map (ze ρ) := by
    show (as.reverse ++ rest).map (ze ρ) = _
    rw [List.map_append, List.map_reverse]
  have hW : 2 * (F0 m pc ls ((as.reverse ++ rest).map (ze ρ))).monitorRoom + ((rest.map (ze ρ)).map fun v => v.category).sum ≤ 16 := by
    rw [zcats]
    show 2 * 0 + _ ≤ 16
    omega
  have hw := hts _ hz
  unfold zW at hw
  rw [hH] at hw
  exact vx_callSN (bytes := yC y') (maxL := yL y') (ret := yR y') (host := host) X x1 x6 (va_Nw.use rfl (hI.2.1 _ hl)) (hts _ hs) (hts _ hi) hw hmh hK (g := F0 m pc ls ((as.reverse ++ rest).map (ze ρ))) rfl hsz hlen hst' hW (by rw [x2]; exact dec) hpre
/-- an instance method, by the receiver's class -/
theorem zV_V {a ci : Nat} {q : vw_C} (dec : decode (yC y) pc = .ok (.invokevirtual idx, 3)) (hl : Cond.methodLink (yN y).cls idx (yN y') ∈ lw_all) (hin : Cond.instanceMethod (yN y') ∈ lw_all) (hsel : Cond.selects q.1 (yN y') (yN y') ∈ lw_all) (hi : Cond.initialized (yN y').cls ∈ lw_all) (hz : zW y' ∈ lw_all)
    (hk : zK h a = ci) (hc : zCl[ci]? = some q) (hC : zM G y' d' (.ref a :: as) h P)
    (hst : st = as.reverse ++ .ref a :: rest) (hn : (parseMethodDescriptor (yN y').desc).map (fun d => d.parameters.length) = some as.length) (hd : d' < d) (hyL : yL y' ≤ 29) (hmh : (yN y').cls ≠ "java/lang/invoke/MethodHandle" ∧ (yN y').cls ≠ "java/lang/invoke/VarHandle") (hr : (rest.map fun v => v.category).sum ≤ 16) (h40 : ci < 40)
    (k : ∀ r h1, P r h1 → zLe h h1 → match r with
      | .inl v => zV G y d (pc + 3) lv (v.toList ++ rest) h1 Q
      | .inr x => zT G y d pc lv rest x h1 Q) : zV G y d pc lv st h Q := by
  subst hst
  refine zV.call hC hd hyL hz hi (fun v hv => ?_) (fun v hv => List.mem_append_right _ (List.mem_cons_of_mem _ hv)) ?_ k
  · rcases List.mem_cons.mp hv with e | e
    · rw [e]; exact List.mem_append_right _ List.mem_cons_self
    · exact List.mem_append_left _ (List.mem_reverse.mpr e)
  intro p e R s m args below meth c T locs cells slots ρ ls Pre Post PostX hX X hS hsz hK hpre w1
  obtain ⟨x1, x2, x3, x4, x5, x6, x7, hts, hI, hg, hfr, hlo, x8, x9⟩ := id hX
  have hlen : ∀ sig, parseMethodDescriptor (yN y').desc = some sig → (as.map (ze ρ)).length = sig.parameters.length := fun sig hsig => by
    rw [hsig] at hn
    rw [List.length_map]
    exact (Option.some.inj hn).symm
  have hst' : (F0 m pc ls ((as.reverse ++ .ref a :: rest).map (ze ρ))).stack = (as.map (ze ρ)).reverse ++ .ref (ρ a) :: rest.map (ze ρ) := by
    show (as.reverse ++ .ref a :: rest).map (ze ρ) = _
    rw [List.map_append, List.map_reverse]
    rfl
  have hW : 2 * (F0 m pc ls ((as.reverse ++ .ref a :: rest).map (ze ρ))).monitorRoom + ((rest.map (ze ρ)).map fun v => v.category).sum ≤ 16 := by
    rw [zcats]
    show 2 * 0 + _ ≤ 16
    omega
  have ha : a < zN h := w1 (.ref a) (List.mem_append_right _ List.mem_cons_self) a rfl
  obtain ⟨cell, r1, r2, r3⟩ := z_recv hI hS ha hk hc h40
  have hw := hts _ hz
  unfold zW at hw
  cases hh : yH y' with
  | nil =>
    rw [hh] at hw
    exact vx_callV (bytes := yC y') (maxL := yL y') (ret := yR y') X x1 x6 (hts _ hl) (hts _ hin) (hts _ hsel) hw hmh hK r1 r2 r3 (g := F0 m pc ls ((as.reverse ++ .ref a :: rest).map (ze ρ))) rfl hsz hlen hst' hW (by rw [x2]; exact dec) hpre
  | cons a b =>
    rw [hh] at hw
    exact vx_callVX (bytes := yC y') (maxL := yL y') (ret := yR y') X x1 x6 (hts _ hl) (hts _ hin) (hts _ hsel) hw hmh hK r1 r2 r3 (g := F0 m pc ls ((as.reverse ++ .ref _ :: rest).map (ze ρ))) rfl hsz hlen hst' hW (by rw [x2]; exact dec) hpre
/-- an instance method x that the receiver's class has from above, or overrides: y' is selected -/
theorem zV_VU {a ci : Nat} {q : vw_C} {x : MethodName} {owner : String} (dec : decode (yC y) pc = .ok (.invokevirtual idx, 3)) (hl : Cond.methodLink (yN y).cls idx x ∈ lw_all) (hsame : Cond.sameMethod x.cls owner x.name x.desc ∈ lw_all)
    (hdecl : (Cond.instanceMethod ⟨owner, x.name, x.desc⟩ ∈ lw_all ∧ ∃ b mL r, Cond.code ⟨owner, x.name, x.desc⟩ b mL r ∈ lw_all) ∨ Cond.declares ⟨owner, x.name, x.desc⟩ ∈ zNest) (hin : Cond.instanceMethod (yN y') ∈ lw_all) (hsel : Cond.selects q.1 x (yN y') ∈ lw_all) (hi : Cond.initialized (yN y').cls ∈ lw_all) (hz : zW y' ∈ lw_all)
    (hk : zK h a = ci) (hc : zCl[ci]? = some q) (hC : zM G y' d' (.ref a :: as) h P)
    (hst : st = as.reverse ++ .ref a :: rest) (hn : (parseMethodDescriptor x.desc).map (fun d => d.parameters.length) = some as.length) (hd : d' < d) (hyL : yL y' ≤ 29) (hmh : owner ≠ "java/lang/invoke/MethodHandle" ∧ owner ≠ "java/lang/invoke/VarHandle") (hr : (rest.map fun v => v.category).sum ≤ 16) (h40 : ci < 40) (hH : yH y' = [])
    (k : ∀ r h1, P r h1 → zLe h h1 → match r with
      | .inl v => zV G y d (pc + 3) lv (v.toList ++ rest) h1 Q
      | .inr x => zT G y d pc lv rest x h1 Q) : zV G y d pc lv st h Q := by
  subst hst
  refine zV.call hC hd hyL hz hi (fun v hv => ?_) (fun v hv => List.mem_append_right _ (List.mem_cons_of_mem _ hv)) ?_ k
  · rcases List.mem_cons.mp hv with e | e
    · rw [e]; exact List.mem_append_right _ List.mem_cons_self
    · exact List.mem_append_left _ (List.mem_reverse.mpr e)
  intro p e R s m args below meth c T locs cells slots ρ ls Pre Post PostX hX X hS hsz hK hpre w1
  obtain ⟨x1, x2, x3, x4, x5, x6, x7, hts, hI, hg, hfr, hlo, x8, x9⟩ := id hX
  have hlen : ∀ sig, parseMethodDescriptor x.desc = some sig → (as.map (ze ρ)).length = sig.parameters.length := fun sig hsig => by
    rw [hsig] at hn
    rw [List.length_map]
    exact (Option.some.inj hn).symm
  have hst' : (F0 m pc ls ((as.reverse ++ .ref a :: rest).map (ze ρ))).stack = (as.map (ze ρ)).reverse ++ .ref (ρ a) :: rest.map (ze ρ) := by
    show (as.reverse ++ .ref a :: rest).map (ze ρ) = _
    rw [List.map_append, List.map_reverse]
    rfl
  have hW : 2 * (F0 m pc ls ((as.reverse ++ .ref a :: rest).map (ze ρ))).monitorRoom + ((rest.map (ze ρ)).map fun v => v.category).sum ≤ 16 := by
    rw [zcats]
    show 2 * 0 + _ ≤ 16
    omega
  have ha : a < zN h := w1 (.ref a) (List.mem_append_right _ List.mem_cons_self) a rfl
  obtain ⟨cell, r1, r2, r3⟩ := z_recv hI hS ha hk hc h40
  have hw := hts _ hz
  unfold zW at hw
  rw [hH] at hw
  have hd0 : va_Decl s ⟨owner, x.name, x.desc⟩ := by
    rcases hdecl with ⟨h1, b, mL, r, h2⟩ | h
    · exact va_Decl.of (hts _ h1) (hts _ h2)
    · exact va_Decl.abs (hI.2.1 _ h)
  exact vx_callVU (bytes := yC y') (maxL := yL y') (ret := yR y') X x1 x6 (hts _ hl) (hts _ hsame) hd0 hmh (hts _ hsel) (hts _ hin) hw hK r1 r2 r3 (g := F0 m pc ls ((as.reverse ++ .ref a :: rest).map (ze ρ))) rfl hsz hlen hst' hW (by rw [x2]; exact dec) hpre
/-- a constructor -/
theorem zV_I {a : Nat} (dec : decode (yC y) pc = .ok (.invokespecial idx, 3)) (hl : Cond.methodLink (yN y).cls idx (yN y') ∈ lw_all) (hin : Cond.instanceMethod (yN y') ∈ lw_all) (hi : Cond.initialized (yN y').cls ∈ lw_all) (hz : zW y' ∈ lw_all)
    (hC : zM G y' d' (.ref a :: as) h P) (hst : st = as.reverse ++ .ref a :: rest) (hn : (parseMethodDescriptor (yN y').desc).map (fun d => d.parameters.length) = some as.length) (hd : d' < d) (hyL : yL y' ≤ 29) (hmh : (yN y').cls ≠ "java/lang/invoke/MethodHandle" ∧ (yN y').cls ≠ "java/lang/invoke/VarHandle")
    (hr : (rest.map fun v => v.category).sum ≤ 16) (hH : yH y' = []) (hR : yR y' = none) (hy1 : (yN y').name = "<init>")
    (k : ∀ r h1, P r h1 → zLe h h1 → match r with
      | .inl v => zV G y d (pc + 3) lv (v.toList ++ rest) h1 Q
      | .inr x => zT G y d pc lv rest x h1 Q) : zV G y d pc lv st h Q := by
  subst hst
  refine zV.call hC hd hyL hz hi (fun v hv => ?_) (fun v hv => List.mem_append_right _ (List.mem_cons_of_mem _ hv)) ?_ k
  · rcases List.mem_cons.mp hv with e | e
    · rw [e]; exact List.mem_append_right _ List.mem_cons_self
    · exact List.mem_append_left _ (List.mem_reverse.mpr e)
  intro p e R s m args below meth c T locs cells slots ρ ls Pre Post PostX hX X hS hsz hK hpre w1
  obtain ⟨x1, x2, x3, x4, x5, x6, x7, hts, hI, hg, hfr, hlo, x8, x9⟩ := id hX
  have hlen : ∀ sig, parseMethodDescriptor (yN y').desc = some sig → (as.map (ze ρ)).length = sig.parameters.length := fun sig hsig => by
    rw [hsig] at hn
    rw [List.length_map]
    exact (Option.some.inj hn).symm
  have hst' : (F0 m pc ls ((as.reverse ++ .ref a :: rest).map (ze ρ))).stack = (as.map (ze ρ)).reverse ++ .ref (ρ a) :: rest.map (ze ρ) := by
    show (as.reverse ++ .ref a :: rest).map (ze ρ) = _
    rw [List.map_append, List.map_reverse]
    rfl
  have hW : 2 * (F0 m pc ls ((as.reverse ++ .ref a :: rest).map (ze ρ))).monitorRoom + ((rest.map (ze ρ)).map fun v => v.category).sum ≤ 16 := by
    rw [zcats]
    show 2 * 0 + _ ≤ 16
    omega
  have hw := hts _ hz
  unfold zW at hw
  rw [hH, hR] at hw
  exact vx_callI (bytes := yC y') (maxL := yL y') X x1 x6 hy1 (hts _ hl) (hts _ hin) hw hmh hK (g := F0 m pc ls ((as.reverse ++ .ref a :: rest).map (ze ρ))) rfl hsz hlen hst' hW (by rw [x2]; exact dec) hpre
/-- a nest mate's constructor -/
theorem zV_IN {a : Nat} {host : String} (dec : decode (yC y) pc = .ok (.invokespecial idx, 3)) (hl : Cond.methodLinkNest (yN y).cls idx (yN y') host ∈ zNest) (hin : Cond.instanceMethod (yN y') ∈ lw_all) (hi : Cond.initialized (yN y').cls ∈ lw_all) (hz : zW y' ∈ lw_all)
    (hC : zM G y' d' (.ref a :: as) h P) (hst : st = as.reverse ++ .ref a :: rest) (hn : (parseMethodDescriptor (yN y').desc).map (fun d => d.parameters.length) = some as.length) (hd : d' < d) (hyL : yL y' ≤ 29) (hmh : (yN y').cls ≠ "java/lang/invoke/MethodHandle" ∧ (yN y').cls ≠ "java/lang/invoke/VarHandle")
    (hr : (rest.map fun v => v.category).sum ≤ 16) (hH : yH y' = []) (hR : yR y' = none) (hy1 : (yN y').name = "<init>")
    (k : ∀ r h1, P r h1 → zLe h h1 → match r with
      | .inl v => zV G y d (pc + 3) lv (v.toList ++ rest) h1 Q
      | .inr x => zT G y d pc lv rest x h1 Q) : zV G y d pc lv st h Q := by
  subst hst
  refine zV.call hC hd hyL hz hi (fun v hv => ?_) (fun v hv => List.mem_append_right _ (List.mem_cons_of_mem _ hv)) ?_ k
  · rcases List.mem_cons.mp hv with e | e
    · rw [e]; exact List.mem_append_right _ List.mem_cons_self
    · exact List.mem_append_left _ (List.mem_reverse.mpr e)
  intro p e R s m args below meth c T locs cells slots ρ ls Pre Post PostX hX X hS hsz hK hpre w1
  obtain ⟨x1, x2, x3, x4, x5, x6, x7, hts, hI, hg, hfr, hlo, x8, x9⟩ := id hX
  have hlen : ∀ sig, parseMethodDescriptor (yN y').desc = some sig → (as.map (ze ρ)).length = sig.parameters.length := fun sig hsig => by
    rw [hsig] at hn
    rw [List.length_map]
    exact (Option.some.inj hn).symm
  have hst' : (F0 m pc ls ((as.reverse ++ .ref a :: rest).map (ze ρ))).stack = (as.map (ze ρ)).reverse ++ .ref (ρ a) :: rest.map (ze ρ) := by
    show (as.reverse ++ .ref a :: rest).map (ze ρ) = _
    rw [List.map_append, List.map_reverse]
    rfl
  have hW : 2 * (F0 m pc ls ((as.reverse ++ .ref a :: rest).map (ze ρ))).monitorRoom + ((rest.map (ze ρ)).map fun v => v.category).sum ≤ 16 := by
    rw [zcats]
    show 2 * 0 + _ ≤ 16
    omega
  have hw := hts _ hz
  unfold zW at hw
  rw [hH, hR] at hw
  exact vx_callIN (bytes := yC y') (maxL := yL y') (host := host) X x1 x6 hy1 (va_Nw.use rfl (hI.2.1 _ hl)) (hts _ hin) hw hmh hK (g := F0 m pc ls ((as.reverse ++ .ref a :: rest).map (ze ρ))) rfl hsz hlen hst' hW (by rw [x2]; exact dec) hpre
end ZC
