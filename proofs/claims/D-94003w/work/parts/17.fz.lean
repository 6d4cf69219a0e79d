/-! BASE 8: private methods of a superclass, interface calls, more stores of references -/
set_option maxRecDepth 100000
theorem z_one {w : Cond} (hg : goodWord w = true) {args a' : Array Value} {s U : State} (hW : s.WarmedH U.vm) (h : w.before args s = true) : w.before a' U = true :=
  pay_in (big := [w]) (ws := [w]) (args := args) (s := s) (fun w' h' => by rw [List.mem_singleton.mp h']; exact h) (fun w' h' => ⟨h', by rw [List.mem_singleton.mp h']; exact good_of_word hg⟩) w List.mem_cons_self a' U hW
/-- a private method of a superclass is selected on an object of a class that selects another method of it -/
theorem z_selp {args : Array Value} {s : State} {C : String} {y y0 : MethodName} (hy : y.cls ≠ "java/lang/invoke/MethodHandle" ∧ y.cls ≠ "java/lang/invoke/VarHandle") (hc0 : y0.cls = y.cls) (h0 : (Cond.selects C y0 y0).before args s = true) (hp : (Cond.privateMethod y).before args s = true) (hi : (Cond.instanceMethod y).before args s = true) : (Cond.selects C y y).before args s = true := by
  obtain ⟨c, r, m, hc, hr, hm, hsel0, kI, hkI, hni⟩ := Cond.selects_spec h0
  obtain ⟨mk, methM, hnamed, hmethM, -, -⟩ := Cond.instanceMethod_spec hi
  have hfound : s.methodFound? y.cls y.name y.desc = some mk := State.methodFound?_of_named hnamed hy
  have e1 := findClass_of_methodNamed hnamed
  have e2 := findClass_of_methodNamed hm
  rw [hc0] at e2
  have hcls : mk.cls = m.cls := Option.some.inj (e1.symm.trans e2)
  have hsel : selectMethod {} s.vm c mk = .method mk := selectMethod_private hmethM (Cond.privateMethod_at hp mk methM hnamed hmethM)
  simp only [Cond.before, Cond.holds, Cond.value, hc, hfound, hnamed, hsel, hcls, hkI]
  simp; exact hni
section XZ
variable {cx : zX} {own : String} {cc : ByteArray} {nL fr lo : Nat} {rt : Option FieldType} {h0 : AH} {Q : State → Prop} {h h' : AH} {out : AO} {pc : Nat} {lv lv' : List (Nat × Value)} {st : List Value}
theorem xk_Vp (hC : Cx cx own cc nL fr lo rt h0) {y y0 : MethodName} {bytes : ByteArray} {maxL idx fr2 lo2 : Nat} {κ b : Nat} {ret : Option FieldType} {As stk : List Value} (hM : zM cx.G cx.l y (ws_ y bytes maxL ret) fr2 lo2 (.ref b :: As) h out h')
    (hκ : hK h b = κ) (z : zIs κ = true) (w1 : Cond.methodLink own idx y ∈ lw_all) (w2 : Cond.instanceMethod y ∈ lw_all) (w3 : Cond.selects (zC κ).1 y0 y0 ∈ lw_all) (hc0 : y0.cls = y.cls) (w6 : Cond.privateMethod y ∈ lw_tbl) (w4 : Cond.code y bytes maxL ret ∈ lw_all) (w5 : Cond.initialized y.cls ∈ lw_all)
    (hy : y.cls ≠ "java/lang/invoke/MethodHandle" ∧ y.cls ≠ "java/lang/invoke/VarHandle" ∧ (parseMethodDescriptor y.desc).map (fun d => d.parameters.length) = some As.length) (hR : fr2 + 1 ≤ fr ∧ 8 + (maxL + 11) + lo2 ≤ lo) (hst : (st.map fun v => v.category).sum ≤ 8) (hstk : As.reverse ++ .ref b :: st = stk) (d : decode cc pc = .ok (.invokevirtual idx, 3)) (k : zK cx nL Q h' pc 3 lv st out) : X cx nL Q h pc lv stk := by
  subst hstk
  intro H locs ls hRq hl hlv T hT XS
  obtain ⟨cell, q1, q2, q3⟩ := x_recv hC hRq hκ z
  have hs0 : (Cond.selects (zC κ).1 y y).before #[Value.ref cx.G.2.2.2.2.1] (zS cx.G) = true := z_selp ⟨hy.1, hy.2.1⟩ hc0 (hC.g0.1 _ (lw_all_tbl w3)) (hC.g0.1 _ w6) (hC.g0.1 _ (lw_all_tbl w2))
  have hs : (Cond.selects (zC κ).1 y y).before cx.a cx.s = true := z_one rfl hC.warm hs0
  have hK := z_back (R := cx.R) (p := cx.p) (e := cx.e) (below := cx.b) (s := cx.s) (sargs := cx.a) (len := 3) (W9 := 8) hM (by rw [hC.rf]; exact hR.1) (by rw [hC.rl]; exact hR.2) (pay_in hC.hts (lw_meth w4)) (pay_in hC.hts lw_self _ w5)
  exact x_after hRq hl hlv hT (vx_callV XS hC.hx hC.hown (hC.hts _ w1) (hC.hts _ w2) hs (hC.hts _ w4) ⟨hy.1, hy.2.1⟩ hK (by rw [hT]; exact q1) q2 q3 (g := F0 cx.m pc ls (As.reverse ++ .ref b :: st)) rfl (hlv.1.trans hC.hml.symm) (argsL := As) (rest := st) (fun sig h => by have := hy.2.2; rw [h] at this; exact (Option.some.inj this).symm) rfl (lv_room hst) (by rw [hC.hb]; exact d) (x_pre hC hRq hT)) k.r k.t
/-- invokeinterface -/
theorem xk_F (hC : Cx cx own cc nL fr lo rt h0) {x y : MethodName} {bytes : ByteArray} {maxL idx count fr2 lo2 : Nat} {κ b : Nat} {ret : Option FieldType} {As stk : List Value} (hM : zM cx.G cx.l y (ws_ y bytes maxL ret) fr2 lo2 (.ref b :: As) h out h')
    (hκ : hK h b = κ) (z : zIs κ = true) (w1 : Cond.methodLink own idx x ∈ lw_all) (w2 : Cond.instanceMethod y ∈ lw_all) (w3 : Cond.selects (zC κ).1 x y ∈ lw_all) (f1 : Cond.declares x ∈ lw_tbl) (f2 : Cond.interfaceMethod x.cls x.cls x.name x.desc ∈ lw_tbl) (f3 : Cond.publicMethod y ∈ lw_tbl) (f4 : Cond.unhidden (zC κ).1 x.name x.desc ∈ lw_tbl) (f5 : Cond.castable (zC κ).1 x.cls ∈ lw_tbl) (w4 : Cond.code y bytes maxL ret ∈ lw_all) (w5 : Cond.initialized y.cls ∈ lw_all)
    (hy : x.cls ≠ "java/lang/invoke/MethodHandle" ∧ x.cls ≠ "java/lang/invoke/VarHandle" ∧ (parseMethodDescriptor x.desc).map (fun d => d.parameters.length) = some As.length) (hR : fr2 + 1 ≤ fr ∧ 8 + (maxL + 11) + lo2 ≤ lo) (hst : (st.map fun v => v.category).sum ≤ 8) (hstk : As.reverse ++ .ref b :: st = stk) (d : decode cc pc = .ok (.invokeinterface idx count, 5)) (k : zK cx nL Q h' pc 5 lv st out) : X cx nL Q h pc lv stk := by
  subst hstk
  intro H locs ls hRq hl hlv T hT XS
  obtain ⟨cell, q1, q2, q3⟩ := x_recv hC hRq hκ z
  obtain ⟨kB, hkB, -⟩ := (hC.kn z).2.2
  have e9 : cell.cls = cx.G.1 κ := Option.some.inj (q3.symm.trans (hC.kn z).2.1)
  have hF : va_Fw (zC κ).1 x y cx.s := va_Fw.moved ⟨hy.1, hy.2.1⟩ hC.warm.alike (va_Fw.of (hC.g0.1 _ f1) (hC.g0.1 _ f2) (hC.g0.1 _ f3) (hC.g0.1 _ f4) (hC.g0.1 _ f5))
  obtain ⟨a1, a2, a3, a4, a5⟩ := hF
  have hK := z_back (R := cx.R) (p := cx.p) (e := cx.e) (below := cx.b) (s := cx.s) (sargs := cx.a) (len := 5) (W9 := 8) hM (by rw [hC.rf]; exact hR.1) (by rw [hC.rl]; exact hR.2) (pay_in hC.hts (lw_meth w4)) (pay_in hC.hts lw_self _ w5)
  exact x_after hRq hl hlv hT (vx_callIF XS hC.hx hC.hown (hC.hts _ w1) (va_tabs rfl rfl a1) (va_tabs rfl rfl a2) (hC.hts _ w3) (hC.hts _ w2) (va_tabs rfl rfl a3) (va_tabs rfl rfl a4) (va_tabs rfl rfl a5) (hC.hts _ w4) ⟨hy.1, hy.2.1⟩ hK (by rw [hT]; exact q1) q2 q3 (by rw [e9]; exact hkB) (g := F0 cx.m pc ls (As.reverse ++ .ref b :: st)) rfl (hlv.1.trans hC.hml.symm) (argsL := As) (rest := st) (fun sig h => by have := hy.2.2; rw [h] at this; exact (Option.some.inj this).symm) rfl (lv_room hst) (by rw [hC.hb]; exact d) (x_pre hC hRq hT)) k.r k.t
/-- a store into an array of the object's own class -/
theorem x_aastS (hC : Cx cx own cc nL fr lo rt h0) {κ κv a v : Nat} {i : Int32} (e : h' = wR h a (ix i) (some v)) (hκ : hK h a = κ) (z : zAr κ = true) (h120 : κ ≠ 120) (ha : aty κ = .object (zC κv).1) (hκv : hK h v = κv) (zv : zIs κv = true) (hi : inb i (hL h a)) (d : decode cc pc = .ok (.aastore, 1)) (kk : X cx nL Q h' (pc + 1) lv st) : X cx nL Q h pc lv (.ref v :: .int i :: .ref a :: st) := by
  subst e
  intro H locs ls hRp hl hlv
  obtain ⟨hz, q1⟩ := hRp.1.2.2.2.2.1 a κ hκ z
  obtain ⟨-, cell, c1, c2, c3, -⟩ := hRp.1.2.2.2.1 v κv hκv zv
  have hcls := (hC.kn zv).2
  have q := (hC.ka z).2
  rw [ha] at q
  obtain ⟨kA, comp, k1, k2, k3, -⟩ := q
  have hcomp : comp = cx.G.1 κv := Option.some.inj (k3.symm.trans hcls.1)
  subst hcomp
  obtain ⟨kC, hkC, -⟩ := hcls.2
  refine W.aast hC.hx hC.hb q1 (fun q h => by cases h) (fun h => by cases h) k1 k2 rfl hkC ⟨fun q => by rw [Int32.lt_iff_toInt_lt, Int32.toInt_zero] at q; omega, by rw [arrV_size]; exact inb_lt hi⟩ c1 (fun q h => by rw [c3] at h; cases h) (by rw [c2]; exact hkC) (by rw [c2]; exact va_assign hcls) rfl rfl d fun H1 e z9 oq => ?_
  have e' := e
  rw [arrV_store] at e
  refine W_tight (kk H1 _ ls (hRp.put q1 e' z9 oq rfl rfl rfl (hRp.1.putA (h120 := h120) (h' := wR h a (ix i) (some v)) (k := ix i) (v := .ref v) hκ z e z9 oq rfl rfl rfl ?_ (wR_o _ _ _ _))) (t_lc hl (hz h120)) hlv)
  rw [ha]
  exact congrArg rv (up2_s _ _ _ _)
end XZ
