/-! ===== MM: calls ===== -/
set_option maxRecDepth 100000
theorem zel_agree {ρ ρ' : Nat → Nat} {n : Nat} (hr : ∀ a, a < n → ρ' a = ρ a) {lv : List (Nat × Value)} (h : ∀ q ∈ lv, zw n q.2) : lv.map (zel ρ') = lv.map (zel ρ) := by
  apply List.map_congr_left
  intro q hq
  simp only [zel]
  rw [ze_agree hr (h q hq)]
theorem zes_agree {ρ ρ' : Nat → Nat} {n : Nat} (hr : ∀ a, a < n → ρ' a = ρ a) {st : List Value} (h : ∀ v ∈ st, zw n v) : st.map (ze ρ') = st.map (ze ρ) := List.map_congr_left fun v hv => ze_agree hr (h v hv)
theorem zcats (ρ : Nat → Nat) (l : List Value) : ((l.map (ze ρ)).map fun v => v.category).sum = (l.map fun v => v.category).sum := by
  rw [List.map_map]
  congr 1
  apply List.map_congr_left
  intro v _
  exact ze_cat ρ v
section ZR
variable {G : zG} {y y' : zY} {d d' pc len : Nat} {lv : List (Nat × Value)} {st rest as : List Value} {h : zH} {P Q : zO → zH → Prop}
theorem zV.call (hC : zM G y' d' as h P) (hd : d' < d) (hyL : yL y' ≤ 29) (hz : zW y' ∈ lw_all) (hi : Cond.initialized (yN y').cls ∈ lw_all) (hsub : ∀ v ∈ as, v ∈ st) (hsubr : ∀ v ∈ rest, v ∈ st)
    (H0 : ∀ {p : Program} {e : Env} {R : Room} {s : State} {m : MethodId} {args : Array Value} {below : List Frame} {meth : Method} {c : Code} {T : State} {locs : List Loc} {cells slots : Nat} {ρ : Nat → Nat} {ls : Array Slot}
      {Pre : Pt → Array Value → Prop} {Post : Pt → Array Value → Option Value → Pt → Prop} {PostX : Pt → Array Value → Addr → Pt → Prop}, zX G y d p e R s m args below meth c → Stand p (gL G) e R s m args below meth c T locs cells slots → zS G ρ h T.heap → ls.size = c.maxLocals →
      vx_Back (gL G) R p e below s args (yN y') len 16 Pre Post PostX → (∀ vm₁, s.WarmedH vm₁ → Pre ⟨T.setVm vm₁, locs, cells, slots⟩ (as.map (ze ρ)).toArray) → (∀ v ∈ st, zw (zN h) v) →
      (∃ (v : Option Value) (vm₁ : Vm) (B : Pt), s.WarmedH vm₁ ∧ Stand p (gL G) e R s m args below meth c B.U B.locs B.cells B.slots ∧ Post ⟨T.setVm vm₁, locs, cells, slots⟩ (as.map (ze ρ)).toArray v B ∧
        ∀ target, Steps p.tables e below (B.U.setTop (F0 m (pc + len) ls (v.toList ++ rest.map (ze ρ)))) target → Steps p.tables e below (T.setTop (F0 m pc ls (st.map (ze ρ)))) target) ∨
      (∃ (q : Addr) (vm₁ : Vm) (B : Pt), s.WarmedH vm₁ ∧ Stand p (gL G) e R s m args below meth c B.U B.locs B.cells B.slots ∧ PostX ⟨T.setVm vm₁, locs, cells, slots⟩ (as.map (ze ρ)).toArray q B ∧
        Steps p.tables e below (T.setTop (F0 m pc ls (st.map (ze ρ)))) ((B.U.setTop (F0 m pc ls (rest.map (ze ρ)))).pushFrame (.throwing q))))
    (k : ∀ r h1, P r h1 → zLe h h1 → match r with
      | .inl v => zV G y d (pc + len) lv (v.toList ++ rest) h1 Q
      | .inr x => zT G y d pc lv rest x h1 Q) : zV G y d pc lv st h Q := by
  obtain ⟨r, h1, hP, hle, hM⟩ := hC
  have hk := k r h1 hP hle
  have key : ∀ {h2 : zH} {r2 : zO} {p : Program} {e : Env} {R : Room} {s : State} {m : MethodId} {args : Array Value} {below : List Frame} {meth : Method} {c : Code} {ρ : Nat → Nat} {T : State} {locs : List Loc} {cells slots mc ms : Nat} {ls : Array Slot}, zLe h1 h2 →
      zX G y d p e R s m args below meth c → zS G ρ h T.heap → va_S (zA G) s.heap T.heap locs → lv_has ls (yL y) (lv.map (zel ρ)) → (∀ v ∈ st, zw (zN h) v) → (∀ q ∈ lv, zw (zN h) q.2) →
      cells + (zC h2 - zC h) ≤ mc → slots + (zU h2 - zU h) ≤ ms → mc ≤ R.cells → ms ≤ R.slots → Stand p (gL G) e R s m args below meth c T locs cells slots →
      (∃ (v : Option Value) (vm₁ : Vm) (B : Pt), s.WarmedH vm₁ ∧ Stand p (gL G) e R s m args below meth c B.U B.locs B.cells B.slots ∧ zPost G r ρ h h1 s ⟨T.setVm vm₁, locs, cells, slots⟩ (as.map (ze ρ)).toArray v B ∧
        ∀ target, Steps p.tables e below (B.U.setTop (F0 m (pc + len) ls (v.toList ++ rest.map (ze ρ)))) target → Steps p.tables e below (T.setTop (F0 m pc ls (st.map (ze ρ)))) target) ∨
      (∃ (q : Addr) (vm₁ : Vm) (B : Pt), s.WarmedH vm₁ ∧ Stand p (gL G) e R s m args below meth c B.U B.locs B.cells B.slots ∧ zPostX G r ρ h h1 s ⟨T.setVm vm₁, locs, cells, slots⟩ (as.map (ze ρ)).toArray q B ∧
        Steps p.tables e below (T.setTop (F0 m pc ls (st.map (ze ρ)))) ((B.U.setTop (F0 m pc ls (rest.map (ze ρ)))).pushFrame (.throwing q))) := by
    intro h2 r2 p e R s m args below meth c ρ T locs cells slots mc ms ls hle2 hX hS hF hl w1 w2 i1 i2 i3 i4 X
    obtain ⟨x1, x2, x3, x4, x5, x6, x7, hts, hI, hg, hfr, hlo, x8⟩ := id hX
    have hin : ∀ w ∈ zW y' :: lw_all, w ∈ lw_all := fun w hw => by
      rcases List.mem_cons.mp hw with e | e
      · rw [e]; exact hz
      · exact e
    have hK := z_back (R := R) (p := p) (e := e) (below := below) (s := s) (sargs := args) (len := len) (W9 := 16) (hM ρ fun v hv => w1 v (hsub v hv)) hI hg (Nat.le_trans (by simp only [zFr]; omega) hfr) (Nat.le_trans (by simp only [zLo]; omega) hlo)
      (pay_in hts (lw_good hin)) (pay_in hts (lw_good (ws := [Cond.initialized (yN y').cls]) (fun w hw => by rw [List.mem_singleton.mp hw]; exact hi)) _ List.mem_cons_self)
    obtain ⟨b1, b2, b3, -, -⟩ := hle
    obtain ⟨c1, c2, c3, -, -⟩ := hle2
    exact H0 hX X hS (hl.1.trans x3.symm) hK (fun vm₁ hW₁ => ⟨by show cells + _ ≤ _; omega, by show slots + _ ≤ _; omega, rfl, hS, hF⟩) w1
  cases r with
  | inl v =>
    obtain ⟨r2, h2, hq, hle2, kk⟩ := hk
    refine ⟨r2, h2, hq, hle.tr hle2, fun p e R s m args below meth c ρ H locs cells slots mc ms ls hX hS hF hl w1 w2 i1 i2 i3 i4 => ?_⟩
    intro T hT X
    subst hT
    rcases key (r2 := r2) hle2 hX hS hF hl w1 w2 i1 i2 i3 i4 X with ⟨v', vm₁, B, hW, X', ⟨ρ', w, hrw, hv', hwf, L, hag, hS', e1, hL, e2, e3, hF'⟩, hst⟩ | ⟨q, vm₁, B, hW, X', ⟨ρ', x, hrx, -⟩, -⟩
    · cases hrw
      subst hv'
      obtain ⟨b1, b2, b3, -, -⟩ := hle
      obtain ⟨c1, c2, c3, -, -⟩ := hle2
      have e1' : B.locs = locs ++ L := e1
      have e2' : B.cells = cells + (zC h1 - zC h) := e2
      have e3' : B.slots = slots + (zU h1 - zU h) := e3
      obtain ⟨t, a1, a2⟩ := kk p e R s m args below meth c ρ' B.U.heap B.locs B.cells B.slots mc ms ls hX hS' (by rw [e1']; exact hF') (by rw [zel_agree hag w2]; exact hl)
        (fun z hz => by
          rcases List.mem_append.mp hz with hz | hz
          · cases v with
            | none => cases hz
            | some v => rw [List.mem_singleton.mp hz]; exact hwf v rfl
          · exact zw_mono (w1 z (hsubr z hz)) b1) (fun q hq => zw_mono (w2 q hq) b1) (by omega) (by omega) i3 i4 B.U rfl X'
      refine ⟨t, hst t ?_, zEnd_mono b1 hag t a2⟩
      have e4 : (v.toList ++ rest).map (ze ρ') = (v.map (ze ρ')).toList ++ rest.map (ze ρ) := by
        rw [List.map_append, zes_agree hag (fun z hz => w1 z (hsubr z hz))]
        cases v <;> rfl
      rw [← e4]
      exact a1
    · cases hrx
  | inr x =>
    obtain ⟨r2, h2, hq, hle2, kk⟩ := hk
    refine ⟨r2, h2, hq, hle.tr hle2, fun p e R s m args below meth c ρ H locs cells slots mc ms ls hX hS hF hl w1 w2 i1 i2 i3 i4 => ?_⟩
    intro T hT X
    subst hT
    rcases key (r2 := r2) hle2 hX hS hF hl w1 w2 i1 i2 i3 i4 X with ⟨v', vm₁, B, hW, X', ⟨ρ', w, hrw, -⟩, -⟩ | ⟨q, vm₁, B, hW, X', ⟨ρ', x', hrx, hqx, hxw, L, hag, hS', e1, hL, e2, e3, hF'⟩, hst⟩
    · cases hrw
    · cases hrx
      subst hqx
      obtain ⟨b1, b2, b3, -, -⟩ := hle
      obtain ⟨c1, c2, c3, -, -⟩ := hle2
      have e1' : B.locs = locs ++ L := e1
      have e2' : B.cells = cells + (zC h1 - zC h) := e2
      have e3' : B.slots = slots + (zU h1 - zU h) := e3
      obtain ⟨t, a1, a2⟩ := kk p e R s m args below meth c ρ' B.U.heap B.locs B.cells B.slots mc ms ls hX hS' (by rw [e1']; exact hF') (by rw [zel_agree hag w2]; exact hl)
        (fun z hz => zw_mono (w1 z (hsubr z hz)) b1) (fun q hq => zw_mono (w2 q hq) b1) (by omega) (by omega) i3 i4 hxw B.U rfl X'
      refine ⟨t, hst.trans ?_, zEnd_mono b1 hag t a2⟩
      rw [← zes_agree hag (fun z hz => w1 z (hsubr z hz))]
      exact a1
end ZR
