/-! methods with an exception table -/
section ZH
variable {Γ : zG} {l : Launch} {y : MethodName} {fr lo : Nat} {av : List Value} {h h' : AH} {out : AO} {cc : ByteArray} {maxL : Nat} {ret : Option FieldType}
theorem z_ofH {hh : List (Nat × Nat × Nat × Nat)} (hfl : l.flags = flags0) (hy : plainName y.cls = true) (hlen : (lg_sl av).length ≤ maxL)
    (body : ∀ x : zX, x.G = Γ → x.l = l → Cx x y.cls cc maxL fr lo ret h → x.M.name = y.name → x.c.exceptionTable.toList = tableOf hh → X x maxL (zQ x h out h') h 0 (lv_args 0 av) []) : zM Γ l y (wsW_ y cc maxL ret hh) fr lo av h out h' := by
  refine MetFree.of_bodyS (code := cc) (maxLocals := maxL) (ret := ret) hy ?_ ?_
  · intro args s m h hn
    obtain ⟨m9, meth, c, hn9, h1, h2, h3, h4, -, h5, h6, -⟩ := Cond.codeWith_spec (atoms_spec (ws := wsW_ y cc maxL ret hh) h _ List.mem_cons_self)
    cases hn.symm.trans hn9
    exact ⟨meth, c, h1, h2, h3, h4, h5, h6⟩
  · intro p e s m args below meth c s₁ B hml hP _
    obtain ⟨rfl, g0, hW, hRp⟩ := hP
    have hts := atoms_spec (ws := wsW_ y cc maxL ret hh) B.pre
    have hh0 : s₁.heap = s.heap := by rw [B.state]; rfl
    have ht : c.exceptionTable.toList = tableOf hh := vx_table (x := y) B (hts _ List.mem_cons_self)
    have key := body (Γ, p, l, e, { frames := fr, cells := hc h, slots := hs h, locals := lo }, s, m, av.toArray, below, meth, c) rfl rfl
      ⟨B.exec, B.bytes, hml, findClass_of_methodNamed B.named, fun w hw => hts w (List.mem_cons_of_mem _ hw), g0, hW, B.notSynchronized, rfl, rfl, hfl, B.returns, rfl, rfl, hRp.1⟩
      (name_of_methodNamed B.named B.method).1 ht s.heap [] _ ⟨hRp, Nat.le_of_eq hRp.1, by show hn h + hc h ≤ s.heap.size + hc h; rw [hRp.1]; exact Nat.le_refl _, by show SLs s.heap s.heap.size + hs h ≤ hs h; rw [SLs_self]; omega⟩ (fun q hq => by cases hq) (lv_entry av (n := maxL) hlen)
    rw [Nat.sub_self, SLs_self] at key
    obtain ⟨t, a1, o, b1, b2, b3⟩ := key s₁ hh0 (Stand.of_body B)
    refine ⟨t, o, ?_, b1, b2, b3⟩
    rw [← lg_entry_eq] at a1
    exact a1
end ZH
section XH
variable {cx : zX} {own : String} {cc : ByteArray} {nL fr lo : Nat} {rt : Option FieldType} {h0 : AH} {Q : State → Prop} {h : AH} {pc : Nat} {lv : List (Nat × Value)} {st : List Value}
/-- a throw in flight, caught here -/
theorem x_catch (hC : Cx cx own cc nL fr lo rt h0) {E name : String} {q : Nat} (pre : List ExceptionTableEntry) (x : ExceptionTableEntry) (suf : List ExceptionTableEntry) (hsplit : cx.c.exceptionTable.toList = pre ++ x :: suf)
    (hpass : ∀ z ∈ pre, covers z pc = false ∨ (z.catchType ≠ 0 ∧ ∃ nm : String, Cond.classLink own z.catchType nm ∈ lw_all ∧ va_Nc E nm cx.s)) (hx : covers x pc = true) (hz : x.catchType ≠ 0) (w1 : Cond.classLink own x.catchType name ∈ lw_all) (w2 : Cond.castable E name ∈ lw_tbl)
    (kk : X cx nL Q h x.handlerPc lv [.ref q]) : XT cx nL Q h pc lv E q := by
  intro H locs ls st hRq hl hlv hce
  obtain ⟨ce, c1, c2, c3⟩ := hce
  exact vx_catch hC.hown pre x suf hsplit (fun z hz => (hpass z hz).imp id (fun ⟨g1, nm, g2, g3⟩ => ⟨g1, nm, hC.hts _ g2, g3⟩)) hx hz (hC.hts _ w1) (va_Nw.use rfl (hC.cast w2)) c1 c2 c3 (kk H locs ls hRq hl hlv)
/-- a throw in flight, not caught here: the handlers do not cover the place, or are of other classes -/
theorem x_outP (hC : Cx cx own cc nL fr lo rt h0) {E : String} {q : Nat} (hpass : ∀ z ∈ cx.c.exceptionTable.toList, covers z pc = false ∨ (z.catchType ≠ 0 ∧ ∃ nm : String, Cond.classLink own z.catchType nm ∈ lw_all ∧ va_Nc E nm cx.s)) : XT cx nL (zQ cx h0 (.inr (E, q)) h) h pc lv E q := by
  intro H locs ls st hRq hl hlv hce
  obtain ⟨ce, c1, c2, c3⟩ := hce
  obtain ⟨r, a1, a2, a3⟩ := hRq
  rw [hC.rc] at a2
  rw [hC.rs] at a3
  have h1 := hC.hz
  have h2 := r.1
  intro T hT XS
  have hpl : cx.e.platform.magicAccessors = ({} : Platform).magicAccessors := by rw [XS.admits.platform]
  obtain ⟨vm', hW', X', st1⟩ := XS.outThrough hC.locks q (g := F0 cx.m pc ls st) rfl rfl rfl (cell := ce) (by rw [hT]; exact c1) (by rw [c2]; rfl)
    (by obtain ⟨k9, h9, -⟩ := Vm.findClass_spec c3; exact ⟨k9, h9⟩) (fun z hz => by
      rcases hpass z hz with h | ⟨hz0, nm, hl1, hn1⟩
      · exact Or.inl h
      · obtain ⟨c6, hc6, hcl6⟩ := Cond.classLink_spec hC.hown (hC.hts _ hl1) cx.e.platform hpl
        obtain ⟨a8, b8, h1, h2, h3⟩ := hn1
        cases Option.some.inj (h1.symm.trans c3)
        cases Option.some.inj (h2.symm.trans hc6)
        exact Or.inr ⟨hz0, _, hcl6, h3⟩)
  obtain ⟨g₀, hfr⟩ := X'.frames_eq
  have hcell9 : ((T.setVm vm').setFrames (.throwing q :: cx.b)).heap[q]? = some ce := by
    show T.heap[q]? = some ce
    rw [hT]; exact c1
  have hh : ((T.setVm vm').setFrames (.throwing q :: cx.b)).heap = H := hT
  have hend : Ended ((T.setVm vm').setFrames (.throwing q :: cx.b)) cx.b (.threw q) := State.frames_setFrames _ (State.cur_lt_of_frames hfr)
  refine ⟨(T.setVm vm').setFrames (.throwing q :: cx.b), ?_, .threw q, X'.here.running, hend, by rw [hh]; exact r, by omega, by omega, by rw [hh]; exact a3, Or.inr ⟨E, q, ce, locs, rfl, rfl, hcell9, c2, c3, (X'.ends _).1, (X'.ends _).2.mono (by omega) (by omega), hl⟩⟩
  rw [XS.pushThrowing_eq]
  exact st1
/-- a throw in flight, caught by a handler of all classes -/
theorem x_catchAny (hC : Cx cx own cc nL fr lo rt h0) {E : String} {q : Nat} (pre : List ExceptionTableEntry) (x : ExceptionTableEntry) (suf : List ExceptionTableEntry) (hsplit : cx.c.exceptionTable.toList = pre ++ x :: suf)
    (hpass : ∀ z ∈ pre, covers z pc = false ∨ (z.catchType ≠ 0 ∧ ∃ nm : String, Cond.classLink own z.catchType nm ∈ lw_all ∧ va_Nc E nm cx.s)) (hx : covers x pc = true) (hz : x.catchType = 0)
    (kk : X cx nL Q h x.handlerPc lv [.ref q]) : XT cx nL Q h pc lv E q := by
  intro H locs ls st hRq hl hlv hce T hT XS
  obtain ⟨ce, c1, c2, c3⟩ := hce
  have hpl : cx.e.platform.magicAccessors = ({} : Platform).magicAccessors := by rw [XS.admits.platform]
  obtain ⟨vm', X', st1⟩ := XS.thenCaughtThrough q (g := F0 cx.m pc ls st) rfl (Steps.refl _) (by rw [hT]; exact c1) (by rw [c2]; rfl) (by obtain ⟨k9, h9, -⟩ := Vm.findClass_spec c3; exact ⟨k9, h9⟩) pre x suf hsplit
    (fun z hz => by
      rcases hpass z hz with h | ⟨hz0, nm, hl1, hn1⟩
      · exact Or.inl h
      · obtain ⟨c6, hc6, hcl6⟩ := Cond.classLink_spec hC.hown (hC.hts _ hl1) cx.e.platform hpl
        obtain ⟨a8, b8, h1, h2, h3⟩ := hn1
        cases Option.some.inj (h1.symm.trans c3)
        cases Option.some.inj (h2.symm.trans hc6)
        exact Or.inr ⟨hz0, _, hcl6, h3⟩) hx (Or.inl hz)
  obtain ⟨t, a1, b1⟩ := kk H locs ls hRq hl hlv (T.setVm vm') hT X'
  exact ⟨t, st1.trans a1, b1⟩
end XH
