/-! BASE 3: contracts over the abstract heap, ends, calls -/
set_option maxRecDepth 100000
/-- a method's end: it returned, or threw an object of a class at an address -/
abbrev AO : Type := Option Value ⊕ (String × Nat)
def zPc (Γ : zG) (av : List Value) (h : AH) : Array Value → State → Prop := fun v U => v = av.toArray ∧ zG0 Γ ∧ (zS Γ).WarmedH U.vm ∧ Rp Γ h U.heap
def zPost (Γ : zG) (h : AH) (out : AO) (h' : AH) : Array Value → State → Outcome → State → Prop := fun _ st o t =>
  Rp Γ h' t.heap ∧ hn h ≤ hn h' ∧ hn h' + hc h' ≤ hn h + hc h ∧ SLs t.heap st.heap.size + hs h' ≤ hs h ∧
  ((∃ v, out = .inl v ∧ o = .returned v ∧ ∃ L, FrameEnd st o t L (hc h) (hs h) ∧ ∀ q ∈ L, z0 Γ ≤ q.base) ∨
   (∃ (E : String) (q : Nat) (ce : Cell) (L : List Loc), out = .inr (E, q) ∧ o = .threw q ∧ t.heap[q]? = some ce ∧ ce.vm = .none ∧ st.vm.findClass E = some ce.cls ∧ st.WarmedH t.vm ∧ st.sameButNew ({ t with vm := st.vm } : State) L (hc h) (hs h) ∧ ∀ z ∈ L, z0 Γ ≤ z.base))
def zM (Γ : zG) (l : Launch) (y : MethodName) (ws : List Cond) (fr lo : Nat) (av : List Value) (h : AH) (out : AO) (h' : AH) : Prop :=
  MetFree l y (headSpec ws { frames := fr, cells := hc h, slots := hs h, locals := lo }) (zPc Γ av h) (fun _ _ _ _ _ => True) (zPost Γ h out h')
/-- the goal of a body's walk -/
def zQ (x : zX) (h0 : AH) (out : AO) (h' : AH) : State → Prop := fun t => ∃ o, t.status = .running ∧ Ended t x.b o ∧ zPost x.G h0 out h' x.a x.s o t
theorem zPc_blind {Γ : zG} {av : List Value} {h : AH} : FrameBlind (zPc Γ av h) := fun _ _ _ _ q => q
theorem SLs_self (H : Heap) : SLs H H.size = 0 := by
  unfold SLs
  rw [List.drop_eq_nil_of_le (by rw [Array.length_toList]; exact Nat.le_refl _)]
  rfl
section ZM
variable {Γ : zG} {l : Launch} {y : MethodName} {fr lo : Nat} {av : List Value} {h h' : AH} {out : AO} {cc : ByteArray} {maxL : Nat} {ret : Option FieldType}
theorem z_of (hfl : l.flags = flags0) (hy : plainName y.cls = true) (hlen : (lg_sl av).length ≤ maxL)
    (body : ∀ x : zX, x.G = Γ → x.l = l → Cx x y.cls cc maxL fr lo ret h → x.M.name = y.name → (∀ z ∈ x.c.exceptionTable.toList, False) → X x maxL (zQ x h out h') h 0 (lv_args 0 av) []) : zM Γ l y (ws_ y cc maxL ret) fr lo av h out h' := by
  refine MetFree.of_bodyS (code := cc) (maxLocals := maxL) (ret := ret) hy ?_ ?_
  · intro args s m h hn
    obtain ⟨meth, c, h1, h2, h3, h4, h5, h6, -, -⟩ := Cond.code_spec hn (atoms_spec (ws := ws_ y cc maxL ret) h _ List.mem_cons_self)
    exact ⟨meth, c, h1, h2, h3, h4, h5, h6⟩
  · intro p e s m args below meth c s₁ B hml hP _
    obtain ⟨rfl, g0, hW, hRp⟩ := hP
    have hts := atoms_spec (ws := ws_ y cc maxL ret) B.pre
    have hh0 : s₁.heap = s.heap := by rw [B.state]; rfl
    have ht : ∀ x ∈ c.exceptionTable.toList, False := by
      obtain ⟨meth9, c9, h1, h2, -, -, -, -, h7, -⟩ := Cond.code_spec B.named (hts _ List.mem_cons_self)
      cases Option.some.inj (h1.symm.trans B.method)
      cases Option.some.inj (h2.symm.trans (Stand.of_body B).code)
      intro x hx
      rw [Array.isEmpty_iff.mp h7] at hx
      cases hx
    have key := body (Γ, p, l, e, { frames := fr, cells := hc h, slots := hs h, locals := lo }, s, m, av.toArray, below, meth, c) rfl rfl
      ⟨B.exec, B.bytes, hml, findClass_of_methodNamed B.named, fun w hw => hts w (List.mem_cons_of_mem _ hw), g0, hW, B.notSynchronized, rfl, rfl, hfl, B.returns, rfl, rfl, hRp.1⟩
      (name_of_methodNamed B.named B.method).1 ht s.heap [] _ ⟨hRp, Nat.le_of_eq hRp.1, by show hn h + hc h ≤ s.heap.size + hc h; rw [hRp.1]; exact Nat.le_refl _, by show SLs s.heap s.heap.size + hs h ≤ hs h; rw [SLs_self]; omega⟩ (fun q hq => by cases hq) (lv_entry av (n := maxL) hlen)
    rw [Nat.sub_self, SLs_self] at key
    obtain ⟨t, a1, o, b1, b2, b3⟩ := key s₁ hh0 (Stand.of_body B)
    refine ⟨t, o, ?_, b1, b2, b3⟩
    rw [← lg_entry_eq] at a1
    exact a1
end ZM
theorem W_mono {p : Program} {l : Launch} {e : Env} {R : Room} {s : State} {m : MethodId} {args : Array Value} {below : List Frame} {meth : Method} {c : Code} {H : Heap} {locs : List Loc} {cells slots : Nat} {g : JFrame} {Q Q' : State → Prop} (hq : ∀ t, Q t → Q' t) (k : W p l e R s m args below meth c H locs cells slots Q g) : W p l e R s m args below meth c H locs cells slots Q' g := fun T hT X => by
  obtain ⟨t, a, b⟩ := k T hT X
  exact ⟨t, a, hq t b⟩
/-- Qc of a plain return -/
def zRet (Γ : zG) (h0 : AH) (v : Option Value) (h' : AH) : Array Value → State → Outcome → State → Prop := fun _ st o t => o = .returned v ∧ Rp Γ h' t.heap ∧ hn h0 ≤ hn h' ∧ hn h' + hc h' ≤ hn h0 + hc h0 ∧ SLs t.heap st.heap.size + hs h' ≤ hs h0
section XE
variable {cx : zX} {own : String} {cc : ByteArray} {nL fr lo : Nat} {rt : Option FieldType} {h0 : AH} {Q : State → Prop} {h : AH} {pc : Nat} {lv lv' : List (Nat × Value)} {st : List Value}
theorem x_end {v : Option Value} (hC : Cx cx own cc nL fr lo rt h0) {g : Array Slot → JFrame}
    (k : ∀ (H : Heap) (locs : List Loc) (ls : Array Slot), (∀ t : State, t.heap = H → cx.s.WarmedH t.vm → zRet cx.G h0 v h cx.a cx.s (.returned v) t) → (∀ q ∈ locs, z0 cx.G ≤ q.base) → lv_has ls nL lv → cx.W H locs (hc h0) (hs h0) (MQ cx.b (zRet cx.G h0 v h) cx.a cx.s (hc h0) (hs h0) (fun q => z0 cx.G ≤ q)) (g ls)) :
    ∀ (H : Heap) (locs : List Loc) (ls : Array Slot), Rq cx h H → (∀ q ∈ locs, z0 cx.G ≤ q.base) → lv_has ls nL lv → cx.W H locs (H.size - cx.s.heap.size) (SLs H cx.s.heap.size) (zQ cx h0 (.inl v) h) (g ls) := by
  intro H locs ls hRq hl hlv
  obtain ⟨r, a1, a2, a3⟩ := hRq
  rw [hC.rc] at a2
  rw [hC.rs] at a3
  have h1 := hC.hz
  have h2 := r.1
  refine W.widen (k := hc h0) (n := hs h0) (by omega) (by omega) (W_mono (fun t q => ?_) (k H locs ls (fun t ht _ => ⟨rfl, by rw [ht]; exact r, by omega, by omega, by rw [ht]; exact a3⟩) hl hlv))
  obtain ⟨o, b1, b2, ⟨e0, b3, b4, b5, b6⟩, L, b7, b8⟩ := q
  exact ⟨o, b1, b2, b3, b4, b5, b6, Or.inl ⟨v, rfl, e0, L, b7, b8⟩⟩
theorem x_iret {v : Int32} (hC : Cx cx own cc nL fr lo (some .int) h0) (d : decode cc pc = .ok (.ireturn, 1)) : X cx nL (zQ cx h0 (.inl (some (.int v))) h) h pc lv [.int v] :=
  x_end hC (g := fun ls => F0 cx.m pc ls [.int v]) fun H locs ls k hl _ => W.iret hC.hx hC.hb hC.ret k hl d hC.locks
theorem x_zret {v : Int32} {ty : FieldType} (hC : Cx cx own cc nL fr lo (some ty) h0) (hn9 : narrow ty (.int v) = .int v) (d : decode cc pc = .ok (.ireturn, 1)) : X cx nL (zQ cx h0 (.inl (some (.int v))) h) h pc lv [.int v] :=
  x_end hC (g := fun ls => F0 cx.m pc ls [.int v]) fun H locs ls k hl _ => W.zret hC.hx hC.hb hC.ret hn9 k hl d hC.locks
theorem x_lret {v : Int64} (hC : Cx cx own cc nL fr lo (some .long) h0) (d : decode cc pc = .ok (.lreturn, 1)) : X cx nL (zQ cx h0 (.inl (some (.long v))) h) h pc lv [.long v] :=
  x_end hC (g := fun ls => F0 cx.m pc ls [.long v]) fun H locs ls k hl _ => W.lret hC.hx hC.hb hC.ret k hl d hC.locks
theorem x_vret (hC : Cx cx own cc nL fr lo none h0) (d : decode cc pc = .ok (.return_, 1)) : X cx nL (zQ cx h0 (.inl none) h) h pc lv [] :=
  x_end hC (g := fun ls => F0 cx.m pc ls []) fun H locs ls k hl _ => W.vret hC.hx hC.hb hC.ret k hl d hC.locks
theorem x_aret {v : Nat} {ty : FieldType} (hC : Cx cx own cc nL fr lo (some ty) h0) (ht : (∃ n, ty = .object n) ∨ ∃ t, ty = .array t) (d : decode cc pc = .ok (.areturn, 1)) : X cx nL (zQ cx h0 (.inl (some (.ref v))) h) h pc lv [.ref v] :=
  x_end hC (g := fun ls => F0 cx.m pc ls [.ref v]) fun H locs ls k hl _ => W.aret hC.hx hC.hb hC.ret ht (Or.inr ⟨v, rfl⟩) k hl d hC.locks
end XE
