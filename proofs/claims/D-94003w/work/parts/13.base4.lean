/-! BASE 4: calls -/
set_option maxRecDepth 100000
def zAft (Γ : zG) (h h' : AH) (A B : Pt) : Prop := Rp Γ h' B.U.heap ∧ hn h ≤ hn h' ∧ hn h' + hc h' ≤ hn h + hc h ∧ SLs B.U.heap A.U.heap.size + hs h' ≤ hs h ∧ (∀ q : Nat, q < A.U.heap.size → (B.U.heap[q]?).map (·.slots.size) = (A.U.heap[q]?).map (·.slots.size)) ∧ ∃ L : List Loc, B.locs = A.locs ++ L ∧ (∀ q ∈ L, z0 Γ ≤ q.base) ∧ B.cells = A.cells + hc h ∧ B.slots = A.slots + hs h
def zPre (Γ : zG) (R : Room) (av : List Value) (h : AH) : Pt → Array Value → Prop := fun A a => A.cells + hc h ≤ R.cells ∧ A.slots + hs h ≤ R.slots ∧ zPc Γ av h a A.U
def zPo (Γ : zG) (h : AH) (out : AO) (h' : AH) : Pt → Array Value → Option Value → Pt → Prop := fun A _ v B => out = .inl v ∧ zAft Γ h h' A B
def zPx (Γ : zG) (h : AH) (out : AO) (h' : AH) : Pt → Array Value → Addr → Pt → Prop := fun A _ q B => ∃ (E : String) (ce : Cell), out = .inr (E, q) ∧ B.U.heap[q]? = some ce ∧ ce.vm = .none ∧ A.U.vm.findClass E = some ce.cls ∧ zAft Γ h h' A B
section ZBack
variable {l : Launch} {R : Room} {p : Program} {e : Env} {below : List Frame} {s : State} {sargs : Array Value} {y : MethodName} {len W9 : Nat}
theorem z_back {bytes : ByteArray} {maxL : Nat} {ret : Option FieldType} {Γ : zG} {av : List Value} {h h' : AH} {out : AO} {fr lo : Nat} (hM : zM Γ l y (ws_ y bytes maxL ret) fr lo av h out h')
    (hframes : fr + 1 ≤ R.frames) (hlocals : W9 + (maxL + 11) + lo ≤ R.locals)
    (hws : ∀ w ∈ (ws_ y bytes maxL ret), ∀ a' U, s.WarmedH U.vm → w.before a' U = true) (hinit : ∀ a' U, s.WarmedH U.vm → (Cond.initialized y.cls).before a' U = true) :
    vx_Back l R p e below s sargs y len W9 (zPre Γ R av h) (zPo Γ h out h') (zPx Γ h out h') := by
  intro m meth c A g ig mk a X hg hsize hdg hW hn hp
  have h1 : (headSpec (ws_ y bytes maxL ret) { frames := fr, cells := hc h, slots := hs h, locals := lo }).pre.before a A.U = true := atoms_intro fun w hw => hws w hw _ _ X.warmed
  have h2 : (Cond.code y bytes maxL ret).before a A.U = true := hws _ List.mem_cons_self _ _ X.warmed
  have h3 : (Cond.initialized y.cls).before a A.U = true := hinit _ _ X.warmed
  have h4 : A.cells + (headSpec (ws_ y bytes maxL ret) { frames := fr, cells := hc h, slots := hs h, locals := lo }).room.cells ≤ R.cells := hp.1
  have h5 : A.slots + (headSpec (ws_ y bytes maxL ret) { frames := fr, cells := hc h, slots := hs h, locals := lo }).room.slots ≤ R.slots := hp.2.1
  have hPc : zPc Γ av h a (A.U.calling g mk a) := zPc_blind _ _ _ _ hp.2.2
  obtain ⟨U, Ls, c0, s0⟩ := A
  dsimp only [Pt.U, Pt.locs, Pt.cells, Pt.slots] at h1 h2 h3 h4 h5 X hn hPc ⊢
  obtain ⟨methY, cY, hmY, hcY, -, hlY, -, -, -, -⟩ := Cond.code_spec hn h2
  obtain ⟨kY, hkY, -⟩ := className_of_methodNamed hn
  have hinitY : kY.init = .initialized := Cond.initialized_spec (findClass_of_methodNamed hn) hkY h3
  have hAt : At U g.method c below := by rw [hg]; exact X.here
  have hlocals9 : W9 + (maxL + 11) + (headSpec (ws_ y bytes maxL ret) { frames := fr, cells := hc h, slots := hs h, locals := lo }).room.locals ≤ R.locals := hlocals
  have happ : (headSpec (ws_ y bytes maxL ret) { frames := fr, cells := hc h, slots := hs h, locals := lo }).appliesLoose y e.platform (U.calling g mk a) = true :=
    Spec.appliesLoose_calling (g := g) hAt hdg hn hkY hinitY
      (X.room_calling (g := g) (R' := (headSpec (ws_ y bytes maxL ret) { frames := fr, cells := hc h, slots := hs h, locals := lo }).room) hsize hmY hcY hframes (by rw [hlY]; omega) h4 h5) h1
  obtain ⟨mid, hmid⟩ := hAt.above
  have hfr : (U.setTop g).frames = (.java g :: mid) ++ below := by rw [State.frames_setTop' g hAt.top, hmid]; rfl
  obtain ⟨o, s₂, hsteps, -, hend, hq⟩ := Steps.callFree hM p X.admits X.cas X.clock (acts := []) hfr happ hPc trivial
  have hq9 : zPost Γ h out h' a (U.calling g mk a) o s₂ := hq
  obtain ⟨hr1, hr2, hr3, hr4, hq'⟩ := hq9
  rw [State.frames_setTop' g hAt.top] at hend
  obtain ⟨g₀, hg0⟩ := Option.isSome_iff_exists.mp hAt.top
  obtain ⟨r, hr⟩ := State.topJava?_eq_some.mp hg0
  have hr' : (({ U with heap := s₂.heap, slotsUsed := s₂.slotsUsed } : State).setVm s₂.vm).frames = .java g₀ :: r := hr
  rcases hq' with ⟨v, ho9, rfl, L, hfe, hL⟩ | ⟨E, q, ce, L, ho9, rfl, hce, hcv, hcl, hW₂, hsm, hL⟩
  · obtain ⟨-, hW₂, e2, q2, q3, q4, q5, q6⟩ := id hfe
    have e3 : s₂ = ({ (U.calling g mk a).setFrames s₂.frames with heap := s₂.heap, slotsUsed := s₂.slotsUsed } : State).setVm s₂.vm := by
      have : s₂ = ({ s₂ with vm := (U.calling g mk a).vm } : State).setVm s₂.vm := rfl
      rw [e2] at this
      exact this
    obtain ⟨c₂, i₂, len₂, hc₂, hd₂, hf₂⟩ := hend
    have hW' : U.WarmedH s₂.vm := hW₂
    have hcc : c₂ = c := by
      have h1 : s₂.code? g.method = U.code? g.method := by
        rw [State.code?_eq, State.code?_eq, hW'.alike.method?]
      exact Option.some.inj (hc₂.symm.trans (h1.trans hAt.code))
    subst hcc
    have hlen : len₂ = len := by rw [hdg] at hd₂; cases hd₂; rfl
    subst hlen
    have hs₂ : s₂ = (({ U with heap := s₂.heap, slotsUsed := s₂.slotsUsed } : State).setVm s₂.vm).setTop { g with pc := g.pc + len₂, stack := v.toList ++ g.stack } := by
      refine e3.trans ?_
      rw [hf₂, State.calling_eq hAt.top, State.setFrames_setFrames, State.setTop_of_frames _ hr', hr]
      rfl
    have hsame : U.sameButNew ({ U with heap := s₂.heap, slotsUsed := s₂.slotsUsed } : State) L (hc h) (hs h) := by
      refine ⟨?_, q2, q3, q4, q5, q6⟩
      obtain ⟨t, ht, -⟩ := State.frames_cons hr
      show ({ U with heap := s₂.heap, slotsUsed := s₂.slotsUsed } : State) = { U.setFrames U.frames with heap := s₂.heap, slotsUsed := s₂.slotsUsed }
      rw [State.setFrames_self ht]
    subst hg
    refine Or.inl ⟨v, ⟨(({ U with heap := s₂.heap, slotsUsed := s₂.slotsUsed } : State).setVm s₂.vm), Ls ++ L, c0 + hc h, s0 + hs h⟩,
      ⟨X.admits, X.cas, X.clock, X.frames, X.room, X.hears, X.method, X.code, (X.here.setHeapUsed s₂.heap s₂.slotsUsed).setVm hW'.alike, X.tail, State.WarmedH.trans X.warmed hW', X.limits, X.bytes, X.same.trans (hsame.setVm s.vm)⟩,
      ⟨ho9, hr1, hr2, hr3, hr4, (fun q hq9 => by
        have hq8 : q < (U.calling g mk a).heap.size := hq9
        obtain ⟨c', z1, -, z3, -⟩ := q6 q _ (Array.getElem?_eq_getElem hq8)
        have z2 : s₂.heap[q]? = some c' := z1
        show (s₂.heap[q]?).map (·.slots.size) = ((U.calling g mk a).heap[q]?).map (·.slots.size)
        rw [z2, Array.getElem?_eq_getElem hq8]
        exact congrArg some z3), L, rfl, hL, rfl, rfl⟩, ?_⟩
    show Steps p.tables e below _ ((({ U with heap := s₂.heap, slotsUsed := s₂.slotsUsed } : State).setVm s₂.vm).setTop { g with pc := g.pc + len₂, stack := v.toList ++ g.stack })
    rw [← hs₂]
    exact hsteps
  · obtain ⟨e2, q2, q3, q4, q5, q6⟩ := id hsm
    have e3 : s₂ = ({ (U.calling g mk a).setFrames s₂.frames with heap := s₂.heap, slotsUsed := s₂.slotsUsed } : State).setVm s₂.vm := by
      have : s₂ = ({ s₂ with vm := (U.calling g mk a).vm } : State).setVm s₂.vm := rfl
      rw [e2] at this
      exact this
    have hf₂ : s₂.frames = .throwing q :: .java g :: U.frames.tail := hend
    have hW' : U.WarmedH s₂.vm := hW₂
    have hs₂ : s₂ = ((({ U with heap := s₂.heap, slotsUsed := s₂.slotsUsed } : State).setVm s₂.vm).setTop g).pushFrame (.throwing q) := by
      refine e3.trans ?_
      rw [hf₂, State.calling_eq hAt.top, State.setFrames_setFrames, State.pushFrame, State.frames_setTop _ hr', State.setTop_of_frames _ hr', State.setFrames_setFrames, hr]
      rfl
    have hsame : U.sameButNew ({ U with heap := s₂.heap, slotsUsed := s₂.slotsUsed } : State) L (hc h) (hs h) := by
      refine ⟨?_, q2, q3, q4, q5, q6⟩
      obtain ⟨t, ht, -⟩ := State.frames_cons hr
      show ({ U with heap := s₂.heap, slotsUsed := s₂.slotsUsed } : State) = { U.setFrames U.frames with heap := s₂.heap, slotsUsed := s₂.slotsUsed }
      rw [State.setFrames_self ht]
    subst hg
    refine Or.inr ⟨q, ⟨(({ U with heap := s₂.heap, slotsUsed := s₂.slotsUsed } : State).setVm s₂.vm), Ls ++ L, c0 + hc h, s0 + hs h⟩,
      ⟨X.admits, X.cas, X.clock, X.frames, X.room, X.hears, X.method, X.code, (X.here.setHeapUsed s₂.heap s₂.slotsUsed).setVm hW'.alike, X.tail, State.WarmedH.trans X.warmed hW', X.limits, X.bytes, X.same.trans (hsame.setVm s.vm)⟩,
      ⟨E, ce, ho9, hce, hcv, hcl, hr1, hr2, hr3, hr4, (fun q hq9 => by
        have hq8 : q < (U.calling g mk a).heap.size := hq9
        obtain ⟨c', z1, -, z3, -⟩ := q6 q _ (Array.getElem?_eq_getElem hq8)
        have z2 : s₂.heap[q]? = some c' := z1
        show (s₂.heap[q]?).map (·.slots.size) = ((U.calling g mk a).heap[q]?).map (·.slots.size)
        rw [z2, Array.getElem?_eq_getElem hq8]
        exact congrArg some z3), L, rfl, hL, rfl, rfl⟩, ?_⟩
    show Steps p.tables e below _ (((({ U with heap := s₂.heap, slotsUsed := s₂.slotsUsed } : State).setVm s₂.vm).setTop g).pushFrame (.throwing q))
    rw [← hs₂]
    exact hsteps
theorem z_backW {bytes : ByteArray} {maxL : Nat} {ret : Option FieldType} {hh : List (Nat × Nat × Nat × Nat)} {Γ : zG} {av : List Value} {h h' : AH} {out : AO} {fr lo : Nat} (hM : zM Γ l y (wsW_ y bytes maxL ret hh) fr lo av h out h')
    (hframes : fr + 1 ≤ R.frames) (hlocals : W9 + (maxL + 11) + lo ≤ R.locals)
    (hws : ∀ w ∈ (wsW_ y bytes maxL ret hh), ∀ a' U, s.WarmedH U.vm → w.before a' U = true) (hinit : ∀ a' U, s.WarmedH U.vm → (Cond.initialized y.cls).before a' U = true) :
    vx_Back l R p e below s sargs y len W9 (zPre Γ R av h) (zPo Γ h out h') (zPx Γ h out h') := by
  intro m meth c A g ig mk a X hg hsize hdg hW hn hp
  have h1 : (headSpec (wsW_ y bytes maxL ret hh) { frames := fr, cells := hc h, slots := hs h, locals := lo }).pre.before a A.U = true := atoms_intro fun w hw => hws w hw _ _ X.warmed
  have h2 : (Cond.codeWith y bytes maxL ret hh).before a A.U = true := hws _ List.mem_cons_self _ _ X.warmed
  have h3 : (Cond.initialized y.cls).before a A.U = true := hinit _ _ X.warmed
  have h4 : A.cells + (headSpec (wsW_ y bytes maxL ret hh) { frames := fr, cells := hc h, slots := hs h, locals := lo }).room.cells ≤ R.cells := hp.1
  have h5 : A.slots + (headSpec (wsW_ y bytes maxL ret hh) { frames := fr, cells := hc h, slots := hs h, locals := lo }).room.slots ≤ R.slots := hp.2.1
  have hPc : zPc Γ av h a (A.U.calling g mk a) := zPc_blind _ _ _ _ hp.2.2
  obtain ⟨U, Ls, c0, s0⟩ := A
  dsimp only [Pt.U, Pt.locs, Pt.cells, Pt.slots] at h1 h2 h3 h4 h5 X hn hPc ⊢
  obtain ⟨m9, methY, cY, hn9, hmY, hcY, -, hlY, -⟩ := Cond.codeWith_spec h2
  cases Option.some.inj (hn9.symm.trans hn)
  obtain ⟨kY, hkY, -⟩ := className_of_methodNamed hn
  have hinitY : kY.init = .initialized := Cond.initialized_spec (findClass_of_methodNamed hn) hkY h3
  have hAt : At U g.method c below := by rw [hg]; exact X.here
  have hlocals9 : W9 + (maxL + 11) + (headSpec (wsW_ y bytes maxL ret hh) { frames := fr, cells := hc h, slots := hs h, locals := lo }).room.locals ≤ R.locals := hlocals
  have happ : (headSpec (wsW_ y bytes maxL ret hh) { frames := fr, cells := hc h, slots := hs h, locals := lo }).appliesLoose y e.platform (U.calling g mk a) = true :=
    Spec.appliesLoose_calling (g := g) hAt hdg hn hkY hinitY
      (X.room_calling (g := g) (R' := (headSpec (wsW_ y bytes maxL ret hh) { frames := fr, cells := hc h, slots := hs h, locals := lo }).room) hsize hmY hcY hframes (by rw [hlY]; omega) h4 h5) h1
  obtain ⟨mid, hmid⟩ := hAt.above
  have hfr : (U.setTop g).frames = (.java g :: mid) ++ below := by rw [State.frames_setTop' g hAt.top, hmid]; rfl
  obtain ⟨o, s₂, hsteps, -, hend, hq⟩ := Steps.callFree hM p X.admits X.cas X.clock (acts := []) hfr happ hPc trivial
  have hq9 : zPost Γ h out h' a (U.calling g mk a) o s₂ := hq
  obtain ⟨hr1, hr2, hr3, hr4, hq'⟩ := hq9
  rw [State.frames_setTop' g hAt.top] at hend
  obtain ⟨g₀, hg0⟩ := Option.isSome_iff_exists.mp hAt.top
  obtain ⟨r, hr⟩ := State.topJava?_eq_some.mp hg0
  have hr' : (({ U with heap := s₂.heap, slotsUsed := s₂.slotsUsed } : State).setVm s₂.vm).frames = .java g₀ :: r := hr
  rcases hq' with ⟨v, ho9, rfl, L, hfe, hL⟩ | ⟨E, q, ce, L, ho9, rfl, hce, hcv, hcl, hW₂, hsm, hL⟩
  · obtain ⟨-, hW₂, e2, q2, q3, q4, q5, q6⟩ := id hfe
    have e3 : s₂ = ({ (U.calling g mk a).setFrames s₂.frames with heap := s₂.heap, slotsUsed := s₂.slotsUsed } : State).setVm s₂.vm := by
      have : s₂ = ({ s₂ with vm := (U.calling g mk a).vm } : State).setVm s₂.vm := rfl
      rw [e2] at this
      exact this
    obtain ⟨c₂, i₂, len₂, hc₂, hd₂, hf₂⟩ := hend
    have hW' : U.WarmedH s₂.vm := hW₂
    have hcc : c₂ = c := by
      have h1 : s₂.code? g.method = U.code? g.method := by
        rw [State.code?_eq, State.code?_eq, hW'.alike.method?]
      exact Option.some.inj (hc₂.symm.trans (h1.trans hAt.code))
    subst hcc
    have hlen : len₂ = len := by rw [hdg] at hd₂; cases hd₂; rfl
    subst hlen
    have hs₂ : s₂ = (({ U with heap := s₂.heap, slotsUsed := s₂.slotsUsed } : State).setVm s₂.vm).setTop { g with pc := g.pc + len₂, stack := v.toList ++ g.stack } := by
      refine e3.trans ?_
      rw [hf₂, State.calling_eq hAt.top, State.setFrames_setFrames, State.setTop_of_frames _ hr', hr]
      rfl
    have hsame : U.sameButNew ({ U with heap := s₂.heap, slotsUsed := s₂.slotsUsed } : State) L (hc h) (hs h) := by
      refine ⟨?_, q2, q3, q4, q5, q6⟩
      obtain ⟨t, ht, -⟩ := State.frames_cons hr
      show ({ U with heap := s₂.heap, slotsUsed := s₂.slotsUsed } : State) = { U.setFrames U.frames with heap := s₂.heap, slotsUsed := s₂.slotsUsed }
      rw [State.setFrames_self ht]
    subst hg
    refine Or.inl ⟨v, ⟨(({ U with heap := s₂.heap, slotsUsed := s₂.slotsUsed } : State).setVm s₂.vm), Ls ++ L, c0 + hc h, s0 + hs h⟩,
      ⟨X.admits, X.cas, X.clock, X.frames, X.room, X.hears, X.method, X.code, (X.here.setHeapUsed s₂.heap s₂.slotsUsed).setVm hW'.alike, X.tail, State.WarmedH.trans X.warmed hW', X.limits, X.bytes, X.same.trans (hsame.setVm s.vm)⟩,
      ⟨ho9, hr1, hr2, hr3, hr4, (fun q hq9 => by
        have hq8 : q < (U.calling g mk a).heap.size := hq9
        obtain ⟨c', z1, -, z3, -⟩ := q6 q _ (Array.getElem?_eq_getElem hq8)
        have z2 : s₂.heap[q]? = some c' := z1
        show (s₂.heap[q]?).map (·.slots.size) = ((U.calling g mk a).heap[q]?).map (·.slots.size)
        rw [z2, Array.getElem?_eq_getElem hq8]
        exact congrArg some z3), L, rfl, hL, rfl, rfl⟩, ?_⟩
    show Steps p.tables e below _ ((({ U with heap := s₂.heap, slotsUsed := s₂.slotsUsed } : State).setVm s₂.vm).setTop { g with pc := g.pc + len₂, stack := v.toList ++ g.stack })
    rw [← hs₂]
    exact hsteps
  · obtain ⟨e2, q2, q3, q4, q5, q6⟩ := id hsm
    have e3 : s₂ = ({ (U.calling g mk a).setFrames s₂.frames with heap := s₂.heap, slotsUsed := s₂.slotsUsed } : State).setVm s₂.vm := by
      have : s₂ = ({ s₂ with vm := (U.calling g mk a).vm } : State).setVm s₂.vm := rfl
      rw [e2] at this
      exact this
    have hf₂ : s₂.frames = .throwing q :: .java g :: U.frames.tail := hend
    have hW' : U.WarmedH s₂.vm := hW₂
    have hs₂ : s₂ = ((({ U with heap := s₂.heap, slotsUsed := s₂.slotsUsed } : State).setVm s₂.vm).setTop g).pushFrame (.throwing q) := by
      refine e3.trans ?_
      rw [hf₂, State.calling_eq hAt.top, State.setFrames_setFrames, State.pushFrame, State.frames_setTop _ hr', State.setTop_of_frames _ hr', State.setFrames_setFrames, hr]
      rfl
    have hsame : U.sameButNew ({ U with heap := s₂.heap, slotsUsed := s₂.slotsUsed } : State) L (hc h) (hs h) := by
      refine ⟨?_, q2, q3, q4, q5, q6⟩
      obtain ⟨t, ht, -⟩ := State.frames_cons hr
      show ({ U with heap := s₂.heap, slotsUsed := s₂.slotsUsed } : State) = { U.setFrames U.frames with heap := s₂.heap, slotsUsed := s₂.slotsUsed }
      rw [State.setFrames_self ht]
    subst hg
    refine Or.inr ⟨q, ⟨(({ U with heap := s₂.heap, slotsUsed := s₂.slotsUsed } : State).setVm s₂.vm), Ls ++ L, c0 + hc h, s0 + hs h⟩,
      ⟨X.admits, X.cas, X.clock, X.frames, X.room, X.hears, X.method, X.code, (X.here.setHeapUsed s₂.heap s₂.slotsUsed).setVm hW'.alike, X.tail, State.WarmedH.trans X.warmed hW', X.limits, X.bytes, X.same.trans (hsame.setVm s.vm)⟩,
      ⟨E, ce, ho9, hce, hcv, hcl, hr1, hr2, hr3, hr4, (fun q hq9 => by
        have hq8 : q < (U.calling g mk a).heap.size := hq9
        obtain ⟨c', z1, -, z3, -⟩ := q6 q _ (Array.getElem?_eq_getElem hq8)
        have z2 : s₂.heap[q]? = some c' := z1
        show (s₂.heap[q]?).map (·.slots.size) = ((U.calling g mk a).heap[q]?).map (·.slots.size)
        rw [z2, Array.getElem?_eq_getElem hq8]
        exact congrArg some z3), L, rfl, hL, rfl, rfl⟩, ?_⟩
    show Steps p.tables e below _ (((({ U with heap := s₂.heap, slotsUsed := s₂.slotsUsed } : State).setVm s₂.vm).setTop g).pushFrame (.throwing q))
    rw [← hs₂]
    exact hsteps
end ZBack
/-- q, of class E, is thrown over the frame at pc -/
def XT (x : zX) (nL : Nat) (Q : State → Prop) (h : AH) (pc : Nat) (lv : List (Nat × Value)) (E : String) (q : Nat) : Prop :=
  ∀ (H : Heap) (locs : List Loc) (ls : Array Slot) (st : List Value), Rq x h H → (∀ q ∈ locs, z0 x.G ≤ q.base) → lv_has ls nL lv → (∃ ce : Cell, H[q]? = some ce ∧ ce.vm = .none ∧ x.s.vm.findClass E = some ce.cls) →
    vx_W x.p x.l x.e x.R x.s x.m x.a x.b x.M x.c H locs (H.size - x.s.heap.size) (SLs H x.s.heap.size) Q (F0 x.m pc ls st) q
theorem Rq.after {x : zX} {h h' : AH} {H : Heap} {U : State} {locs : List Loc} {cells slots : Nat} {B : Pt} (r : Rq x h H) (hU : U.heap = H) (aft : zAft x.G h h' ⟨U, locs, cells, slots⟩ B) : Rq x h' B.U.heap := by
  obtain ⟨r0, a1, a2, a3⟩ := r
  obtain ⟨f1, f2, f3, f4, f5, -⟩ := aft
  have f4 : SLs B.U.heap H.size + hs h' ≤ hs h := by rw [← hU]; exact f4
  have f5 : ∀ q : Nat, q < H.size → (B.U.heap[q]?).map (·.slots.size) = (H[q]?).map (·.slots.size) := by rw [← hU]; exact f5
  have h0 := r0.1
  have f0 := f1.1
  have e1 : SLs B.U.heap x.s.heap.size = SLs H x.s.heap.size + SLs B.U.heap H.size := SLs_split (by omega) (by omega) rfl f5
  exact ⟨f1, by omega, by omega, by omega⟩
section XC
variable {cx : zX} {own : String} {cc : ByteArray} {nL fr lo : Nat} {rt : Option FieldType} {h0 : AH} {Q : State → Prop} {h h' : AH} {out : AO} {pc : Nat} {lv lv' : List (Nat × Value)} {st : List Value}
theorem vx_tight {H : Heap} {locs : List Loc} {cells slots : Nat} {g : JFrame} {q : Nat} (k : vx_W cx.p cx.l cx.e cx.R cx.s cx.m cx.a cx.b cx.M cx.c H locs (H.size - cx.s.heap.size) (SLs H cx.s.heap.size) Q g q) : vx_W cx.p cx.l cx.e cx.R cx.s cx.m cx.a cx.b cx.M cx.c H locs cells slots Q g q := by
  intro T hT X
  subst hT
  exact k T rfl (stand_tight X)
theorem x_after {H : Heap} {locs : List Loc} {cells slots len : Nat} {ls : Array Slot} {T : State} {a : Array Value} {stk : List Value} (hRq : Rq cx h H) (hl : ∀ q ∈ locs, z0 cx.G ≤ q.base) (hlv : lv_has ls nL lv) (hT : T.heap = H)
    (res : (∃ (v : Option Value) (vm₁ : Vm) (B : Pt), cx.s.WarmedH vm₁ ∧ Stand cx.p cx.l cx.e cx.R cx.s cx.m cx.a cx.b cx.M cx.c B.U B.locs B.cells B.slots ∧ zPo cx.G h out h' ⟨T.setVm vm₁, locs, cells, slots⟩ a v B ∧
      ∀ target, Steps cx.p.tables cx.e cx.b (B.U.setTop { F0 cx.m pc ls stk with pc := pc + len, stack := v.toList ++ st }) target → Steps cx.p.tables cx.e cx.b (T.setTop (F0 cx.m pc ls stk)) target) ∨
    (∃ (q : Addr) (vm₁ : Vm) (B : Pt), cx.s.WarmedH vm₁ ∧ Stand cx.p cx.l cx.e cx.R cx.s cx.m cx.a cx.b cx.M cx.c B.U B.locs B.cells B.slots ∧ zPx cx.G h out h' ⟨T.setVm vm₁, locs, cells, slots⟩ a q B ∧
      Steps cx.p.tables cx.e cx.b (T.setTop (F0 cx.m pc ls stk)) ((B.U.setTop { F0 cx.m pc ls stk with stack := st }).pushFrame (.throwing q))))
    (kr : ∀ v, out = .inl v → X cx nL Q h' (pc + len) lv (v.toList ++ st)) (kt : ∀ E q, out = .inr (E, q) → XT cx nL Q h' pc lv E q) : ∃ t, Steps cx.p.tables cx.e cx.b (T.setTop (F0 cx.m pc ls stk)) t ∧ Q t := by
  rcases res with ⟨v, vm₁, B, hW, X', ⟨ho, aft⟩, hsteps⟩ | ⟨q, vm₁, B, hW, X', ⟨E, ce, ho, c1, c2, c3, aft⟩, hsteps⟩
  · have r := hRq.after (U := T.setVm vm₁) hT aft
    obtain ⟨-, -, -, -, -, L, l1, l2, -, -⟩ := aft
    obtain ⟨t, a1, b1⟩ := W_tight (kr v ho B.U.heap B.locs ls r (by rw [l1]; exact t_lL hl l2) hlv) B.U rfl X'
    exact ⟨t, hsteps t a1, b1⟩
  · have r := hRq.after (U := T.setVm vm₁) hT aft
    obtain ⟨-, -, -, -, -, L, l1, l2, -, -⟩ := aft
    obtain ⟨t, a1, b1⟩ := vx_tight (kt E q ho B.U.heap B.locs ls st r (by rw [l1]; exact t_lL hl l2) hlv ⟨ce, c1, c2, vx_cls hW c3⟩) B.U rfl X'
    exact ⟨t, hsteps.trans a1, b1⟩
theorem x_pre {H : Heap} {locs : List Loc} {T : State} {av : List Value} (hC : Cx cx own cc nL fr lo rt h0) (hRq : Rq cx h H) (hT : T.heap = H) : ∀ vm₁, cx.s.WarmedH vm₁ → zPre cx.G cx.R av h ⟨T.setVm vm₁, locs, H.size - cx.s.heap.size, SLs H cx.s.heap.size⟩ av.toArray := by
  intro vm₁ hW
  obtain ⟨r, a1, a2, a3⟩ := hRq
  have h1 := r.1
  refine ⟨by show H.size - _ + _ ≤ _; omega, a3, rfl, hC.g0, State.WarmedH.trans hC.warm hW, ?_⟩
  show Rp cx.G h T.heap
  rw [hT]
  exact r
theorem x_recv {H : Heap} (hC : Cx cx own cc nL fr lo rt h0) (hRq : Rq cx h H) {b κ : Nat} (hκ : hK h b = κ) (z : zIs κ = true) : ∃ cell : Cell, H[b]? = some cell ∧ cell.vm.isStatics = false ∧ cx.s.vm.findClass (zC κ).1 = some cell.cls := by
  obtain ⟨-, cell, q1, q2, q3, -⟩ := hRq.1.2.2.2.1 b κ hκ z
  exact ⟨cell, q1, by rw [q3]; rfl, by rw [q2]; exact (hC.kn z).2.1⟩
/-- invokevirtual of a method of the receiver's own class -/
theorem x_callV (hC : Cx cx own cc nL fr lo rt h0) {y : MethodName} {bytes : ByteArray} {maxL idx κ b fr2 lo2 : Nat} {ret : Option FieldType} {As : List Value} (hM : zM cx.G cx.l y (ws_ y bytes maxL ret) fr2 lo2 (.ref b :: As) h out h')
    (hκ : hK h b = κ) (z : zIs κ = true) (w1 : Cond.methodLink own idx y ∈ lw_all) (w2 : Cond.instanceMethod y ∈ lw_all) (w3 : Cond.selects (zC κ).1 y y ∈ lw_all) (w4 : Cond.code y bytes maxL ret ∈ lw_all) (w5 : Cond.initialized y.cls ∈ lw_all)
    (hy : y.cls ≠ "java/lang/invoke/MethodHandle" ∧ y.cls ≠ "java/lang/invoke/VarHandle" ∧ (parseMethodDescriptor y.desc).map (fun d => d.parameters.length) = some As.length) (hR : fr2 + 1 ≤ fr ∧ 8 + (maxL + 11) + lo2 ≤ lo)
    (hst : (st.map fun v => v.category).sum ≤ 8) (d : decode cc pc = .ok (.invokevirtual idx, 3))
    (kr : ∀ v, out = .inl v → X cx nL Q h' (pc + 3) lv (v.toList ++ st)) (kt : ∀ E q, out = .inr (E, q) → XT cx nL Q h' pc lv E q) : X cx nL Q h pc lv (As.reverse ++ .ref b :: st) := by
  intro H locs ls hRq hl hlv T hT XS
  obtain ⟨cell, q1, q2, q3⟩ := x_recv hC hRq hκ z
  have hK := z_back (R := cx.R) (p := cx.p) (e := cx.e) (below := cx.b) (s := cx.s) (sargs := cx.a) (len := 3) (W9 := 8) hM (by rw [hC.rf]; exact hR.1) (by rw [hC.rl]; exact hR.2) (pay_in hC.hts (lw_meth w4)) (pay_in hC.hts lw_self _ w5)
  exact x_after hRq hl hlv hT (vx_callV XS hC.hx hC.hown (hC.hts _ w1) (hC.hts _ w2) (hC.hts _ w3) (hC.hts _ w4) ⟨hy.1, hy.2.1⟩ hK (by rw [hT]; exact q1) q2 q3 (g := F0 cx.m pc ls (As.reverse ++ .ref b :: st)) rfl (hlv.1.trans hC.hml.symm) (argsL := As) (rest := st) (fun sig h => by have := hy.2.2; rw [h] at this; exact (Option.some.inj this).symm) rfl (lv_room hst) (by rw [hC.hb]; exact d) (x_pre hC hRq hT)) kr kt
/-- invokestatic -/
theorem x_callS (hC : Cx cx own cc nL fr lo rt h0) {y : MethodName} {bytes : ByteArray} {maxL idx fr2 lo2 : Nat} {ret : Option FieldType} {As : List Value} (hM : zM cx.G cx.l y (ws_ y bytes maxL ret) fr2 lo2 As h out h')
    (w1 : Cond.methodLink own idx y ∈ lw_all) (w2 : Cond.static y ∈ lw_all) (w4 : Cond.code y bytes maxL ret ∈ lw_all) (w5 : Cond.initialized y.cls ∈ lw_all)
    (hy : y.cls ≠ "java/lang/invoke/MethodHandle" ∧ y.cls ≠ "java/lang/invoke/VarHandle" ∧ (parseMethodDescriptor y.desc).map (fun d => d.parameters.length) = some As.length) (hR : fr2 + 1 ≤ fr ∧ 8 + (maxL + 11) + lo2 ≤ lo)
    (hst : (st.map fun v => v.category).sum ≤ 8) (d : decode cc pc = .ok (.invokestatic idx, 3))
    (kr : ∀ v, out = .inl v → X cx nL Q h' (pc + 3) lv (v.toList ++ st)) (kt : ∀ E q, out = .inr (E, q) → XT cx nL Q h' pc lv E q) : X cx nL Q h pc lv (As.reverse ++ st) := by
  intro H locs ls hRq hl hlv T hT XS
  have hK := z_back (R := cx.R) (p := cx.p) (e := cx.e) (below := cx.b) (s := cx.s) (sargs := cx.a) (len := 3) (W9 := 8) hM (by rw [hC.rf]; exact hR.1) (by rw [hC.rl]; exact hR.2) (pay_in hC.hts (lw_meth w4)) (pay_in hC.hts lw_self _ w5)
  exact x_after hRq hl hlv hT (vx_callS XS hC.hx hC.hown (hC.hts _ w1) (hC.hts _ w2) (hC.hts _ w5) (hC.hts _ w4) ⟨hy.1, hy.2.1⟩ hK (g := F0 cx.m pc ls (As.reverse ++ st)) rfl (hlv.1.trans hC.hml.symm) (argsL := As) (rest := st) (fun sig h => by have := hy.2.2; rw [h] at this; exact (Option.some.inj this).symm) rfl (lv_room hst) (by rw [hC.hb]; exact d) (x_pre hC hRq hT)) kr kt
end XC
