/-! ===== MM: entry, ends, calls ===== -/
set_option maxRecDepth 100000
theorem zW_spec {y : zY} {args : Array Value} {s : State} (h : (zW y).before args s = true) : ∃ m meth c, s.methodNamed? (yN y) = some m ∧ s.vm.method? m = some meth ∧ meth.code = some c ∧ c.code = yC y ∧ c.maxLocals = yL y ∧ meth.sig.returnType = yR y ∧ meth.locks = false ∧
    parseMethodDescriptor (yN y).desc = some meth.sig ∧ c.exceptionTable.toList.map (fun h => (h.startPc, h.endPc, h.handlerPc, h.catchType)) = yH y := by
  unfold zW at h
  cases hh : yH y with
  | nil =>
    rw [hh] at h
    obtain ⟨m, hn⟩ := Cond.code_named h
    obtain ⟨meth, c, h1, h2, h3, h4, h5, h6, h7, h8⟩ := Cond.code_spec hn h
    refine ⟨m, meth, c, hn, h1, h2, h3, h4, h5, h6, h8, ?_⟩
    have : c.exceptionTable.toList = [] := by
      have := Array.isEmpty_iff.mp h7
      rw [this]
    rw [this]; rfl
  | cons a b =>
    rw [hh] at h
    obtain ⟨m, meth, c, hn, h1, h2, h3, h4, h5, h6, h7, h8⟩ := Cond.codeWith_spec h
    exact ⟨m, meth, c, hn, h1, h2, h3, h4, h6, h7, h8, h5⟩
theorem zInv.blind {G : zG} {U : State} {g : JFrame} {mk : MethodId} {a : Array Value} (h : zInv G U) : zInv G (U.calling g mk a) := by
  obtain ⟨h1, h2, h3, h4, h5, h6, h7, h8, h9⟩ := h
  have hA : U.vm.Alike (U.calling g mk a).vm := Vm.Alike.refl U.vm
  refine ⟨va_K.moved (u := U) (U := U.calling g mk a) hA h1, fun w hw => ?_, fun q hq => vk_R.same (u := U) rfl (h3 q hq), fun q hq => va_Z.moved (u := U) (U := U.calling g mk a) hA (h4 q hq), ⟨vx_L.moved (u := U) (U := U.calling g mk a) hA h5.1, vx_L.moved (u := U) (U := U.calling g mk a) hA h5.2⟩, h6,
    va_AO.moved (u := U) (U := U.calling g mk a) hA h7, va_AO.moved (u := U) (U := U.calling g mk a) hA h8, h9⟩
  have ht : w.onTables = true := by
    have : ∀ w ∈ zNest, w.onTables = true := by decide +kernel
    exact this w hw
  exact va_Nw.same (u := U) (U := U.calling g mk a) ht rfl (h2 w hw)
theorem zNest_move {s U : State} (hW : s.WarmedH U.vm) : ∀ w ∈ zNest, va_Nw w s → va_Nw w U := List.forall_mem_cons.mpr ⟨fun h => va_Nw.warmC hW h, List.forall_mem_cons.mpr ⟨fun h => va_Nw.warmC hW h, List.forall_mem_cons.mpr ⟨fun h => va_Nw.warmC hW h, List.forall_mem_cons.mpr ⟨fun h => va_Nw.warmC hW h, List.forall_mem_cons.mpr ⟨fun h => va_Nw.warmC hW h, List.forall_mem_cons.mpr ⟨fun h => va_Nw.warmF hW h, List.forall_mem_cons.mpr ⟨fun h => va_Nw.warmF hW h, List.forall_mem_cons.mpr ⟨fun h => va_Nw.warmF hW h, List.forall_mem_cons.mpr ⟨fun h => va_Nw.warmF hW h, List.forall_mem_cons.mpr ⟨fun h => va_Nw.warmF hW h, List.forall_mem_cons.mpr ⟨fun h => va_Nw.warmF hW h, List.forall_mem_cons.mpr ⟨fun h => va_Nw.warmM hW h, List.forall_mem_cons.mpr ⟨fun h => va_Nw.warmF hW h, List.forall_mem_cons.mpr ⟨fun h => va_Nw.warmF hW h, List.forall_mem_cons.mpr ⟨fun h => va_Nw.warmF hW h, List.forall_mem_cons.mpr ⟨fun h => va_Nw.warmM hW h, List.forall_mem_cons.mpr ⟨fun h => va_Nw.warmM hW h, List.forall_mem_cons.mpr ⟨fun h => va_Nw.warmC hW h, List.forall_mem_cons.mpr ⟨fun h => va_Nw.warmF hW h, List.forall_mem_cons.mpr ⟨fun h => va_Nw.warmF hW h, List.forall_mem_cons.mpr ⟨fun h => va_Nw.warmM hW h, List.forall_mem_cons.mpr ⟨fun h => va_Nw.warmF hW h, List.forall_mem_cons.mpr ⟨fun h => va_Nw.warmF hW h, List.forall_mem_cons.mpr ⟨fun h => va_Nw.warmF hW h, List.forall_mem_cons.mpr ⟨fun h => va_Nw.warmF hW h, List.forall_mem_cons.mpr ⟨fun h => va_Nw.warmF hW h, List.forall_mem_cons.mpr ⟨fun h => va_Nw.warmF hW h, List.forall_mem_cons.mpr ⟨fun h => va_Nw.warmM hW h, List.forall_mem_cons.mpr ⟨fun h => va_Nw.warmM hW h, List.forall_mem_cons.mpr ⟨fun h => va_Nw.warmM hW h, List.forall_mem_cons.mpr ⟨fun h => va_Nw.warmC hW h, List.forall_mem_cons.mpr ⟨fun h => va_Nw.warmD hW h, List.forall_mem_cons.mpr ⟨fun h => va_Nw.warmD hW h, List.forall_mem_cons.mpr ⟨fun h => va_Nw.warmD hW h, List.forall_mem_cons.mpr ⟨fun h => va_Nw.warmD hW h, List.forall_mem_cons.mpr ⟨fun h => va_Nw.warmD hW h, (fun w h => by cases h)⟩⟩⟩⟩⟩⟩⟩⟩⟩⟩⟩⟩⟩⟩⟩⟩⟩⟩⟩⟩⟩⟩⟩⟩⟩⟩⟩⟩⟩⟩⟩⟩⟩⟩⟩⟩
theorem zInv.move {G : zG} {s U : State} {L : List Loc} {k n : Nat} (hW : s.WarmedH U.vm) (hs : s.sameButNew (U.setVm s.vm) L k n) (hH : ∀ q : Nat, q < s.heap.size → ¬ zA G q → U.heap[q]? = s.heap[q]?) (h : zInv G s) : zInv G U := by
  obtain ⟨h1, h2, h3, h4, h5, h6, h7, h8, h9⟩ := h
  have hA : s.vm.Alike U.vm := hW.alike
  refine ⟨va_K.moved hA h1, fun w hw => zNest_move hW w hw (h2 w hw), fun q hq => vk_R.warm hW (h3 q hq), fun q hq => (va_Z.moved hA (h4 q hq)).kept hH, ⟨(vx_L.moved hA h5.1).kept hH, (vx_L.moved hA h5.2).kept hH⟩, h6, va_AO.moved hA h7, va_AO.moved hA h8, fun k hk => ?_⟩
  obtain ⟨one, h10, h11⟩ := h9 k hk
  exact ⟨one, State.lambdaAt?_rides hW hs h10, h11⟩
theorem z_lglen {as : List Value} {ρ : Nat → Nat} : (lg_sl (as.map (ze ρ))).length = (lg_sl as).length := by
  induction as with
  | nil => rfl
  | cons v l ih =>
    simp only [List.map_cons, lg_sl, List.flatMap_cons, List.length_append, ze_cat] at ih ⊢
    rw [ih]
    by_cases hc : v.category = 2 <;> simp [hc]
theorem z_lvargs {as : List Value} {ρ : Nat → Nat} : ∀ i, lv_args i (as.map (ze ρ)) = (lv_args i as).map (zel ρ) := by
  induction as with
  | nil => intro i; rfl
  | cons v l ih =>
    intro i
    simp only [List.map_cons, lv_args, ze_cat, ih]
    rfl
theorem z_argswf {as : List Value} {n : Nat} (hwf : ∀ v ∈ as, zw n v) : ∀ i, ∀ q ∈ lv_args i as, zw n q.2 := by
  induction as with
  | nil => intro i q hq; cases hq
  | cons v l ih =>
    intro i q hq
    rcases List.mem_cons.mp hq with rfl | hq
    · exact hwf _ List.mem_cons_self
    · exact ih (fun v hv => hwf v (List.mem_cons_of_mem _ hv)) _ q hq
/-- a method out of its walk -/
theorem zM.ofV {G : zG} {y : zY} {d : Nat} {as : List Value} {h : zH} {Q : zO → zH → Prop} {lv : List (Nat × Value)} (hy : plainName (yN y).cls = true) (hn : (lg_sl as).length ≤ yL y) (hl : lv_args 0 as = lv) (k : zV G y d 0 lv [] h Q) : zM G y d as h Q := by
  obtain ⟨r, h', a, b, k⟩ := k
  refine ⟨r, h', a, b, fun ρ hwf => ?_⟩
  refine MetFree.of_bodyS (code := yC y) (maxLocals := yL y) (ret := yR y) hy ?_ ?_
  · intro args s m h hn
    obtain ⟨m9, meth, c, hn9, h1, h2, h3, h4, h5, h6, -⟩ := zW_spec (atoms_spec (ws := zW y :: lw_all) h _ List.mem_cons_self)
    cases hn.symm.trans hn9
    exact ⟨meth, c, h1, h2, h3, h4, h5, h6⟩
  · intro p e s m args below meth c s₁ B hml hP _
    obtain ⟨rfl, hI, hS, hg⟩ := hP
    have hh0 : s₁.heap = s.heap := by rw [B.state]; rfl
    have hts := atoms_spec (ws := zW y :: lw_all) B.pre
    have hw := hts _ List.mem_cons_self
    obtain ⟨m9, meth9, c9, hn9, h1, h2, -⟩ := zW_spec hw
    cases B.named.symm.trans hn9
    cases B.method.symm.trans h1
    have hc9 : meth.code = some c := (Stand.of_body B).code
    have hls := z_lglen (as := as) (ρ := ρ)
    have hla := fun i => z_lvargs (as := as) (ρ := ρ) i
    have hl0 := lv_entry (as.map (ze ρ)) (n := yL y) (by rw [hls]; exact hn)
    rw [hla 0, hl] at hl0
    have hX : zX G y d p e (zRm d (zC h' - zC h) (zU h' - zU h)) s m (as.map (ze ρ)).toArray below meth c :=
      ⟨B.exec, B.bytes, hml, B.returns, B.notSynchronized, findClass_of_methodNamed B.named, (name_of_methodNamed B.named B.method).1, fun w h => hts w (List.mem_cons_of_mem _ h), hI, hg, Nat.le_refl _, Nat.le_refl _, hw, B.named, B.method, hc9⟩
    have hwl : ∀ q ∈ lv, zw (zN h) q.2 := by
      rw [← hl]
      exact z_argswf hwf 0
    have K := k p e (zRm d (zC h' - zC h) (zU h' - zU h)) s m (as.map (ze ρ)).toArray below meth c ρ s.heap [] 0 0 (zC h' - zC h) (zU h' - zU h) _ hX hS va_S.rf hl0 (fun v hv => by cases hv) hwl (by omega) (by omega) (Nat.le_refl _) (Nat.le_refl _)
    have K2 : W p (gL G) e (zRm d (zC h' - zC h) (zU h' - zU h)) s m (as.map (ze ρ)).toArray below meth c s.heap [] 0 0 (zEnd G r h' ρ (zN h) below s (zC h' - zC h) (zU h' - zU h)) (entryFrame m (as.map (ze ρ)).toArray (yL y)) := by
      rw [lg_entry_eq]
      exact K
    obtain ⟨t, a1, o, b1, b2, b3⟩ := K2 s₁ hh0 (Stand.of_body B)
    exact ⟨t, o, a1, b1, b2, b3⟩
section ZB
variable {R : Room} {p : Program} {e : Env} {below : List Frame} {s : State} {sargs : Array Value} {len W9 : Nat}
def zPre (G : zG) (R : Room) (as : List Value) (ρ : Nat → Nat) (h h' : zH) (s : State) : Pt → Array Value → Prop := fun A a =>
  A.cells + (zC h' - zC h) ≤ R.cells ∧ A.slots + (zU h' - zU h) ≤ R.slots ∧ a = (as.map (ze ρ)).toArray ∧ zS G ρ h A.U.heap ∧ va_S (zA G) s.heap A.U.heap A.locs
def zPo (G : zG) (ρ ρ' : Nat → Nat) (h h' : zH) (s : State) (A B : Pt) : Prop := ∃ L, (∀ a, a < zN h → ρ' a = ρ a) ∧ zS G ρ' h' B.U.heap ∧ B.locs = A.locs ++ L ∧ (∀ q ∈ L, zA G q.base) ∧ B.cells = A.cells + (zC h' - zC h) ∧ B.slots = A.slots + (zU h' - zU h) ∧ va_S (zA G) s.heap B.U.heap (A.locs ++ L)
def zPost (G : zG) (r : zO) (ρ : Nat → Nat) (h h' : zH) (s : State) : Pt → Array Value → Option Value → Pt → Prop := fun A _ v B =>
  ∃ (ρ' : Nat → Nat) (w : Option Value), r = .inl w ∧ v = w.map (ze ρ') ∧ (∀ x, w = some x → zw (zN h') x) ∧ zPo G ρ ρ' h h' s A B
def zPostX (G : zG) (r : zO) (ρ : Nat → Nat) (h h' : zH) (s : State) : Pt → Array Value → Addr → Pt → Prop := fun A _ q B =>
  ∃ (ρ' : Nat → Nat) (x : Nat), r = .inr x ∧ q = ρ' x ∧ x < zN h' ∧ zPo G ρ ρ' h h' s A B
theorem z_back {G : zG} {y : zY} {d : Nat} {as : List Value} {b0 b1 : zH} {r : zO} {ρ : Nat → Nat}
    (hM : MetFree (gL G) (yN y) (headSpec (zW y :: lw_all) (zRm d (zC b1 - zC b0) (zU b1 - zU b0))) (va_Pc (as.map (ze ρ)) (fun U => zInv G U ∧ zS G ρ b0 U.heap ∧ gS G ≤ U.heap.size)) (fun _ _ _ _ _ => True)
      (fun _ st o t => zQ G r b1 ρ (zN b0) st (zC b1 - zC b0) (zU b1 - zU b0) o t))
    (hI : zInv G s) (hg0 : gS G ≤ s.heap.size) (hframes : zFr d + 1 ≤ R.frames) (hlocals : W9 + (yL y + 11) + zLo d ≤ R.locals)
    (hws : ∀ w ∈ zW y :: lw_all, ∀ a' U, s.WarmedH U.vm → w.before a' U = true) (hinit : ∀ a' U, s.WarmedH U.vm → (Cond.initialized (yN y).cls).before a' U = true) :
    vx_Back (gL G) R p e below s sargs (yN y) len W9 (zPre G R as ρ b0 b1 s) (zPost G r ρ b0 b1 s) (zPostX G r ρ b0 b1 s) := by
  intro m meth c A g ig mk a X hg hsize hdg hW hn hp
  obtain ⟨hp1, hp2, hp3, hp4, hp5⟩ := hp
  have h1 : (headSpec (zW y :: lw_all) (zRm d (zC b1 - zC b0) (zU b1 - zU b0))).pre.before a A.U = true := atoms_intro fun w hw => hws w hw _ _ X.warmed
  have h2 : (zW y).before a A.U = true := hws _ List.mem_cons_self _ _ X.warmed
  have h3 : (Cond.initialized (yN y).cls).before a A.U = true := hinit _ _ X.warmed
  have hIA : zInv G A.U := zInv.move X.warmed X.same (fun q h1 h2 => hp5.2.1 q h1 h2) hI
  have hPc : va_Pc (as.map (ze ρ)) (fun U => zInv G U ∧ zS G ρ b0 U.heap ∧ gS G ≤ U.heap.size) a (A.U.calling g mk a) := ⟨hp3, hIA.blind, hp4, Nat.le_trans hg0 hp5.1⟩
  obtain ⟨U, Ls, c0, s0⟩ := A
  dsimp only [Pt.U, Pt.locs, Pt.cells, Pt.slots] at h1 h2 h3 hp1 hp2 hp4 hp5 X hn hPc hIA ⊢
  obtain ⟨mk9, methY, cY, hn9, hmY, hcY, -, hlY, -, -, -⟩ := zW_spec h2
  cases hn.symm.trans hn9
  obtain ⟨kY, hkY, -⟩ := className_of_methodNamed hn
  have hinitY : kY.init = .initialized := Cond.initialized_spec (findClass_of_methodNamed hn) hkY h3
  have h : At U g.method c below := by rw [hg]; exact X.here
  have happ : (headSpec (zW y :: lw_all) (zRm d (zC b1 - zC b0) (zU b1 - zU b0))).appliesLoose (yN y) e.platform (U.calling g mk a) = true :=
    Spec.appliesLoose_calling (g := g) h hdg hn hkY hinitY
      (X.room_calling (g := g) (R' := (headSpec (zW y :: lw_all) (zRm d (zC b1 - zC b0) (zU b1 - zU b0))).room) hsize hmY hcY hframes (by rw [hlY]; show _ + _ + zLo d ≤ _; omega) hp1 hp2) h1
  obtain ⟨mid, hmid⟩ := h.above
  have hfr : (U.setTop g).frames = (.java g :: mid) ++ below := by rw [State.frames_setTop' g h.top, hmid]; rfl
  obtain ⟨o, s₂, hsteps, -, hend, hq⟩ := Steps.callFree hM p X.admits X.cas X.clock (acts := []) hfr happ hPc trivial
  have hq' : zQ G r b1 ρ (zN b0) (U.calling g mk a) (zC b1 - zC b0) (zU b1 - zU b0) o s₂ := hq
  rw [State.frames_setTop' g h.top] at hend
  obtain ⟨g₀, hg0'⟩ := Option.isSome_iff_exists.mp h.top
  obtain ⟨rr, hr⟩ := State.topJava?_eq_some.mp hg0'
  have hr' : (({ U with heap := s₂.heap, slotsUsed := s₂.slotsUsed } : State).setVm s₂.vm).frames = .java g₀ :: rr := hr
  obtain ⟨ρ', hag, hS', hF', hW₂, ⟨L, hsm, hL⟩, hout⟩ := hq'
  obtain ⟨e2, q2, q3, q4, q5, q6⟩ := id hsm
  have e3 : s₂ = ({ (U.calling g mk a).setFrames s₂.frames with heap := s₂.heap, slotsUsed := s₂.slotsUsed } : State).setVm s₂.vm := by
    have : s₂ = ({ s₂ with vm := (U.calling g mk a).vm } : State).setVm s₂.vm := rfl
    rw [e2] at this
    exact this
  have hW' : U.WarmedH s₂.vm := hW₂
  have hsame : U.sameButNew ({ U with heap := s₂.heap, slotsUsed := s₂.slotsUsed } : State) L (zC b1 - zC b0) (zU b1 - zU b0) := by
    refine ⟨?_, q2, q3, q4, q5, q6⟩
    obtain ⟨t, ht, -⟩ := State.frames_cons hr
    show ({ U with heap := s₂.heap, slotsUsed := s₂.slotsUsed } : State) = { U.setFrames U.frames with heap := s₂.heap, slotsUsed := s₂.slotsUsed }
    rw [State.setFrames_self ht]
  have hPo : zPo G ρ ρ' b0 b1 s (U, Ls, c0, s0) ((({ U with heap := s₂.heap, slotsUsed := s₂.slotsUsed } : State).setVm s₂.vm), Ls ++ L, c0 + (zC b1 - zC b0), s0 + (zU b1 - zU b0)) := by
    refine ⟨L, hag, hS', rfl, hL, rfl, rfl, ?_⟩
    refine ⟨Nat.le_trans hp5.1 q2, fun q h1 h2 => ?_, fun z hz => ?_⟩
    · exact (hF'.2 q (Nat.lt_of_lt_of_le h1 hp5.1) h2).trans (hp5.2.1 q h1 h2)
    · rcases List.mem_append.mp hz with hz | hz
      · exact hp5.2.2 z hz
      · exact hL z hz
  cases r with
  | inl v0 =>
    obtain ⟨rfl, hwf⟩ := hout
    obtain ⟨c₂, i₂, len₂, hc₂, hd₂, hf₂⟩ := hend
    have hcc : c₂ = c := by
      have h1 : s₂.code? g.method = U.code? g.method := by
        rw [State.code?_eq, State.code?_eq, hW'.alike.method?]
      exact Option.some.inj (hc₂.symm.trans (h1.trans h.code))
    subst hcc
    have hlen : len₂ = len := by rw [hdg] at hd₂; cases hd₂; rfl
    subst hlen
    have hs₂ : s₂ = (({ U with heap := s₂.heap, slotsUsed := s₂.slotsUsed } : State).setVm s₂.vm).setTop { g with pc := g.pc + len₂, stack := (v0.map (ze ρ')).toList ++ g.stack } := by
      refine e3.trans ?_
      rw [hf₂, State.calling_eq h.top, State.setFrames_setFrames, State.setTop_of_frames _ hr', hr]
      rfl
    subst hg
    refine Or.inl ⟨v0.map (ze ρ'), ⟨(({ U with heap := s₂.heap, slotsUsed := s₂.slotsUsed } : State).setVm s₂.vm), Ls ++ L, c0 + (zC b1 - zC b0), s0 + (zU b1 - zU b0)⟩,
      ⟨X.admits, X.cas, X.clock, X.frames, X.room, X.hears, X.method, X.code, (X.here.setHeapUsed s₂.heap s₂.slotsUsed).setVm hW'.alike, X.tail, State.WarmedH.trans X.warmed hW', X.limits, X.bytes, X.same.trans (hsame.setVm s.vm)⟩,
      ⟨ρ', v0, rfl, rfl, hwf, hPo⟩, ?_⟩
    show Steps p.tables e below _ ((({ U with heap := s₂.heap, slotsUsed := s₂.slotsUsed } : State).setVm s₂.vm).setTop { g with pc := g.pc + len₂, stack := (v0.map (ze ρ')).toList ++ g.stack })
    rw [← hs₂]
    exact hsteps
  | inr x =>
    obtain ⟨rfl, hx⟩ := hout
    have hf₂ : s₂.frames = .throwing (ρ' x) :: .java g :: U.frames.tail := hend
    have hs₂ : s₂ = ((({ U with heap := s₂.heap, slotsUsed := s₂.slotsUsed } : State).setVm s₂.vm).setTop g).pushFrame (.throwing (ρ' x)) := by
      refine e3.trans ?_
      rw [hf₂, State.calling_eq h.top, State.setFrames_setFrames, State.pushFrame, State.frames_setTop _ hr', State.setTop_of_frames _ hr', State.setFrames_setFrames, hr]
      rfl
    subst hg
    refine Or.inr ⟨ρ' x, ⟨(({ U with heap := s₂.heap, slotsUsed := s₂.slotsUsed } : State).setVm s₂.vm), Ls ++ L, c0 + (zC b1 - zC b0), s0 + (zU b1 - zU b0)⟩,
      ⟨X.admits, X.cas, X.clock, X.frames, X.room, X.hears, X.method, X.code, (X.here.setHeapUsed s₂.heap s₂.slotsUsed).setVm hW'.alike, X.tail, State.WarmedH.trans X.warmed hW', X.limits, X.bytes, X.same.trans (hsame.setVm s.vm)⟩,
      ⟨ρ', x, rfl, rfl, hx, hPo⟩, ?_⟩
    show Steps p.tables e below _ (((({ U with heap := s₂.heap, slotsUsed := s₂.slotsUsed } : State).setVm s₂.vm).setTop g).pushFrame (.throwing (ρ' x)))
    rw [← hs₂]
    exact hsteps
end ZB
