/-! BASE 6: all kinds of calls, ends by a throw, constructors, references -/
set_option maxRecDepth 100000
/-- what goes on behind a call -/
def zK (x : zX) (nL : Nat) (Q : State → Prop) (h : AH) (pc len : Nat) (lv : List (Nat × Value)) (st : List Value) (out : AO) : Prop := match out with
  | .inl none => X x nL Q h (pc + len) lv st
  | .inl (some v) => X x nL Q h (pc + len) lv (v :: st)
  | .inr (E, q) => XT x nL Q h pc lv E q
section XK
variable {cx : zX} {own : String} {cc : ByteArray} {nL fr lo : Nat} {rt : Option FieldType} {h0 : AH} {Q : State → Prop} {h h' : AH} {out : AO} {pc : Nat} {lv lv' : List (Nat × Value)} {st : List Value}
theorem zK.r {len : Nat} (k : zK cx nL Q h pc len lv st out) : ∀ v, out = .inl v → X cx nL Q h (pc + len) lv (v.toList ++ st) := fun v e => by
  subst e
  cases v with
  | none => exact k
  | some v => exact k
theorem zK.t {len : Nat} (k : zK cx nL Q h pc len lv st out) : ∀ E q, out = .inr (E, q) → XT cx nL Q h pc lv E q := fun E q e => by
  subst e
  exact k
theorem Cx.mnest (hC : Cx cx own cc nL fr lo rt h0) {o : String} {i : Nat} {y : MethodName} {host : String} (w : Cond.methodLinkNest o i y host ∈ lw_tbl) : (Cond.methodLinkNest o i y host).before cx.a cx.s = true := va_Nw.use rfl (va_Nw.warmM hC.warm (va_Nw.of rfl (hC.g0.1 _ w)))
theorem Cx.decl (hC : Cx cx own cc nL fr lo rt h0) {y : MethodName} (w : Cond.declares y ∈ lw_tbl) : va_Nw (.declares y) cx.s := va_Nw.warmD hC.warm (va_Nw.of rfl (hC.g0.1 _ w))
theorem Cx.cast (hC : Cx cx own cc nL fr lo rt h0) {C D : String} (w : Cond.castable C D ∈ lw_tbl) : va_Nw (.castable C D) cx.s := va_Nw.warmC hC.warm (va_Nw.of rfl (hC.g0.1 _ w))
theorem xk_V (hC : Cx cx own cc nL fr lo rt h0) {y : MethodName} {bytes : ByteArray} {maxL idx fr2 lo2 : Nat} {κ b : Nat} {ret : Option FieldType} {As stk : List Value} (hM : zM cx.G cx.l y (ws_ y bytes maxL ret) fr2 lo2 (.ref b :: As) h out h')
    (hκ : hK h b = κ) (z : zIs κ = true) (w1 : Cond.methodLink own idx y ∈ lw_all) (w2 : Cond.instanceMethod y ∈ lw_all) (w3 : Cond.selects (zC κ).1 y y ∈ lw_all) (w4 : Cond.code y bytes maxL ret ∈ lw_all) (w5 : Cond.initialized y.cls ∈ lw_all)
    (hy : y.cls ≠ "java/lang/invoke/MethodHandle" ∧ y.cls ≠ "java/lang/invoke/VarHandle" ∧ (parseMethodDescriptor y.desc).map (fun d => d.parameters.length) = some As.length) (hR : fr2 + 1 ≤ fr ∧ 8 + (maxL + 11) + lo2 ≤ lo) (hst : (st.map fun v => v.category).sum ≤ 8) (hstk : As.reverse ++ .ref b :: st = stk) (d : decode cc pc = .ok (.invokevirtual idx, 3)) (k : zK cx nL Q h' pc 3 lv st out) : X cx nL Q h pc lv stk := by
  subst hstk
  intro H locs ls hRq hl hlv T hT XS
  obtain ⟨cell, q1, q2, q3⟩ := x_recv hC hRq hκ z
  have hK := z_back (R := cx.R) (p := cx.p) (e := cx.e) (below := cx.b) (s := cx.s) (sargs := cx.a) (len := 3) (W9 := 8) hM (by rw [hC.rf]; exact hR.1) (by rw [hC.rl]; exact hR.2) (pay_in hC.hts (lw_meth w4)) (pay_in hC.hts lw_self _ w5)
  exact x_after hRq hl hlv hT (vx_callV XS hC.hx hC.hown (hC.hts _ w1) (hC.hts _ w2) (hC.hts _ w3) (hC.hts _ w4) ⟨hy.1, hy.2.1⟩ hK (by rw [hT]; exact q1) q2 q3 (g := F0 cx.m pc ls (As.reverse ++ .ref b :: st)) rfl (hlv.1.trans hC.hml.symm) (argsL := As) (rest := st) (fun sig h => by have := hy.2.2; rw [h] at this; exact (Option.some.inj this).symm) rfl (lv_room hst) (by rw [hC.hb]; exact d) (x_pre hC hRq hT)) k.r k.t
theorem xk_S (hC : Cx cx own cc nL fr lo rt h0) {y : MethodName} {bytes : ByteArray} {maxL idx fr2 lo2 : Nat}  {ret : Option FieldType} {As stk : List Value} (hM : zM cx.G cx.l y (ws_ y bytes maxL ret) fr2 lo2 As h out h')
    (w1 : Cond.methodLink own idx y ∈ lw_all) (w2 : Cond.static y ∈ lw_all) (w4 : Cond.code y bytes maxL ret ∈ lw_all) (w5 : Cond.initialized y.cls ∈ lw_all)
    (hy : y.cls ≠ "java/lang/invoke/MethodHandle" ∧ y.cls ≠ "java/lang/invoke/VarHandle" ∧ (parseMethodDescriptor y.desc).map (fun d => d.parameters.length) = some As.length) (hR : fr2 + 1 ≤ fr ∧ 8 + (maxL + 11) + lo2 ≤ lo) (hst : (st.map fun v => v.category).sum ≤ 8) (hstk : As.reverse ++ st = stk) (d : decode cc pc = .ok (.invokestatic idx, 3)) (k : zK cx nL Q h' pc 3 lv st out) : X cx nL Q h pc lv stk := by
  subst hstk
  intro H locs ls hRq hl hlv T hT XS
  have hK := z_back (R := cx.R) (p := cx.p) (e := cx.e) (below := cx.b) (s := cx.s) (sargs := cx.a) (len := 3) (W9 := 8) hM (by rw [hC.rf]; exact hR.1) (by rw [hC.rl]; exact hR.2) (pay_in hC.hts (lw_meth w4)) (pay_in hC.hts lw_self _ w5)
  exact x_after hRq hl hlv hT (vx_callS XS hC.hx hC.hown (hC.hts _ w1) (hC.hts _ w2) (hC.hts _ w5) (hC.hts _ w4) ⟨hy.1, hy.2.1⟩ hK (g := F0 cx.m pc ls (As.reverse ++ st)) rfl (hlv.1.trans hC.hml.symm) (argsL := As) (rest := st) (fun sig h => by have := hy.2.2; rw [h] at this; exact (Option.some.inj this).symm) rfl (lv_room hst) (by rw [hC.hb]; exact d) (x_pre hC hRq hT)) k.r k.t
theorem xk_I (hC : Cx cx own cc nL fr lo rt h0) {y : MethodName} {bytes : ByteArray} {maxL idx fr2 lo2 : Nat} {b : Nat} {As stk : List Value} (hM : zM cx.G cx.l y (ws_ y bytes maxL none) fr2 lo2 (.ref b :: As) h out h')
    (w1 : Cond.methodLink own idx y ∈ lw_all) (w2 : Cond.instanceMethod y ∈ lw_all) (wi : y.name = "<init>") (w4 : Cond.code y bytes maxL none ∈ lw_all) (w5 : Cond.initialized y.cls ∈ lw_all)
    (hy : y.cls ≠ "java/lang/invoke/MethodHandle" ∧ y.cls ≠ "java/lang/invoke/VarHandle" ∧ (parseMethodDescriptor y.desc).map (fun d => d.parameters.length) = some As.length) (hR : fr2 + 1 ≤ fr ∧ 8 + (maxL + 11) + lo2 ≤ lo) (hst : (st.map fun v => v.category).sum ≤ 8) (hstk : As.reverse ++ .ref b :: st = stk) (d : decode cc pc = .ok (.invokespecial idx, 3)) (k : zK cx nL Q h' pc 3 lv st out) : X cx nL Q h pc lv stk := by
  subst hstk
  intro H locs ls hRq hl hlv T hT XS
  have hK := z_back (R := cx.R) (p := cx.p) (e := cx.e) (below := cx.b) (s := cx.s) (sargs := cx.a) (len := 3) (W9 := 8) hM (by rw [hC.rf]; exact hR.1) (by rw [hC.rl]; exact hR.2) (pay_in hC.hts (lw_meth w4)) (pay_in hC.hts lw_self _ w5)
  exact x_after hRq hl hlv hT (vx_callI XS hC.hx hC.hown wi (hC.hts _ w1) (hC.hts _ w2) (hC.hts _ w4) ⟨hy.1, hy.2.1⟩ hK (g := F0 cx.m pc ls (As.reverse ++ .ref b :: st)) rfl (hlv.1.trans hC.hml.symm) (argsL := As) (rest := st) (fun sig h => by have := hy.2.2; rw [h] at this; exact (Option.some.inj this).symm) rfl (lv_room hst) (by rw [hC.hb]; exact d) (x_pre hC hRq hT)) k.r k.t
theorem xk_IN (hC : Cx cx own cc nL fr lo rt h0) {y : MethodName} {bytes : ByteArray} {maxL idx fr2 lo2 : Nat} {b : Nat} {As stk : List Value} (hM : zM cx.G cx.l y (ws_ y bytes maxL none) fr2 lo2 (.ref b :: As) h out h')
    {host : String} (w1 : Cond.methodLinkNest own idx y host ∈ lw_tbl) (w2 : Cond.instanceMethod y ∈ lw_all) (wi : y.name = "<init>") (w4 : Cond.code y bytes maxL none ∈ lw_all) (w5 : Cond.initialized y.cls ∈ lw_all)
    (hy : y.cls ≠ "java/lang/invoke/MethodHandle" ∧ y.cls ≠ "java/lang/invoke/VarHandle" ∧ (parseMethodDescriptor y.desc).map (fun d => d.parameters.length) = some As.length) (hR : fr2 + 1 ≤ fr ∧ 8 + (maxL + 11) + lo2 ≤ lo) (hst : (st.map fun v => v.category).sum ≤ 8) (hstk : As.reverse ++ .ref b :: st = stk) (d : decode cc pc = .ok (.invokespecial idx, 3)) (k : zK cx nL Q h' pc 3 lv st out) : X cx nL Q h pc lv stk := by
  subst hstk
  intro H locs ls hRq hl hlv T hT XS
  have hK := z_back (R := cx.R) (p := cx.p) (e := cx.e) (below := cx.b) (s := cx.s) (sargs := cx.a) (len := 3) (W9 := 8) hM (by rw [hC.rf]; exact hR.1) (by rw [hC.rl]; exact hR.2) (pay_in hC.hts (lw_meth w4)) (pay_in hC.hts lw_self _ w5)
  exact x_after hRq hl hlv hT (vx_callIN XS hC.hx hC.hown wi (hC.mnest w1) (hC.hts _ w2) (hC.hts _ w4) ⟨hy.1, hy.2.1⟩ hK (g := F0 cx.m pc ls (As.reverse ++ .ref b :: st)) rfl (hlv.1.trans hC.hml.symm) (argsL := As) (rest := st) (fun sig h => by have := hy.2.2; rw [h] at this; exact (Option.some.inj this).symm) rfl (lv_room hst) (by rw [hC.hb]; exact d) (x_pre hC hRq hT)) k.r k.t
theorem xk_SN (hC : Cx cx own cc nL fr lo rt h0) {y : MethodName} {bytes : ByteArray} {maxL idx fr2 lo2 : Nat}  {ret : Option FieldType} {As stk : List Value} (hM : zM cx.G cx.l y (ws_ y bytes maxL ret) fr2 lo2 As h out h')
    {host : String} (w1 : Cond.methodLinkNest own idx y host ∈ lw_tbl) (w2 : Cond.static y ∈ lw_all) (w4 : Cond.code y bytes maxL ret ∈ lw_all) (w5 : Cond.initialized y.cls ∈ lw_all)
    (hy : y.cls ≠ "java/lang/invoke/MethodHandle" ∧ y.cls ≠ "java/lang/invoke/VarHandle" ∧ (parseMethodDescriptor y.desc).map (fun d => d.parameters.length) = some As.length) (hR : fr2 + 1 ≤ fr ∧ 8 + (maxL + 11) + lo2 ≤ lo) (hst : (st.map fun v => v.category).sum ≤ 8) (hstk : As.reverse ++ st = stk) (d : decode cc pc = .ok (.invokestatic idx, 3)) (k : zK cx nL Q h' pc 3 lv st out) : X cx nL Q h pc lv stk := by
  subst hstk
  intro H locs ls hRq hl hlv T hT XS
  have hK := z_back (R := cx.R) (p := cx.p) (e := cx.e) (below := cx.b) (s := cx.s) (sargs := cx.a) (len := 3) (W9 := 8) hM (by rw [hC.rf]; exact hR.1) (by rw [hC.rl]; exact hR.2) (pay_in hC.hts (lw_meth w4)) (pay_in hC.hts lw_self _ w5)
  exact x_after hRq hl hlv hT (vx_callSN XS hC.hx hC.hown (hC.mnest w1) (hC.hts _ w2) (hC.hts _ w5) (hC.hts _ w4) ⟨hy.1, hy.2.1⟩ hK (g := F0 cx.m pc ls (As.reverse ++ st)) rfl (hlv.1.trans hC.hml.symm) (argsL := As) (rest := st) (fun sig h => by have := hy.2.2; rw [h] at this; exact (Option.some.inj this).symm) rfl (lv_room hst) (by rw [hC.hb]; exact d) (x_pre hC hRq hT)) k.r k.t
theorem xk_VN (hC : Cx cx own cc nL fr lo rt h0) {y : MethodName} {bytes : ByteArray} {maxL idx fr2 lo2 : Nat} {κ b : Nat} {ret : Option FieldType} {As stk : List Value} (hM : zM cx.G cx.l y (ws_ y bytes maxL ret) fr2 lo2 (.ref b :: As) h out h')
    (hκ : hK h b = κ) (z : zIs κ = true) {host : String} (w1 : Cond.methodLinkNest own idx y host ∈ lw_tbl) (w2 : Cond.instanceMethod y ∈ lw_all) (w3 : Cond.selects (zC κ).1 y y ∈ lw_all) (w4 : Cond.code y bytes maxL ret ∈ lw_all) (w5 : Cond.initialized y.cls ∈ lw_all)
    (hy : y.cls ≠ "java/lang/invoke/MethodHandle" ∧ y.cls ≠ "java/lang/invoke/VarHandle" ∧ (parseMethodDescriptor y.desc).map (fun d => d.parameters.length) = some As.length) (hR : fr2 + 1 ≤ fr ∧ 8 + (maxL + 11) + lo2 ≤ lo) (hst : (st.map fun v => v.category).sum ≤ 8) (hstk : As.reverse ++ .ref b :: st = stk) (d : decode cc pc = .ok (.invokevirtual idx, 3)) (k : zK cx nL Q h' pc 3 lv st out) : X cx nL Q h pc lv stk := by
  subst hstk
  intro H locs ls hRq hl hlv T hT XS
  obtain ⟨cell, q1, q2, q3⟩ := x_recv hC hRq hκ z
  have hK := z_back (R := cx.R) (p := cx.p) (e := cx.e) (below := cx.b) (s := cx.s) (sargs := cx.a) (len := 3) (W9 := 8) hM (by rw [hC.rf]; exact hR.1) (by rw [hC.rl]; exact hR.2) (pay_in hC.hts (lw_meth w4)) (pay_in hC.hts lw_self _ w5)
  exact x_after hRq hl hlv hT (vx_callVN XS hC.hx hC.hown (hC.mnest w1) (hC.hts _ w2) (hC.hts _ w3) (hC.hts _ w4) ⟨hy.1, hy.2.1⟩ hK (by rw [hT]; exact q1) q2 q3 (g := F0 cx.m pc ls (As.reverse ++ .ref b :: st)) rfl (hlv.1.trans hC.hml.symm) (argsL := As) (rest := st) (fun sig h => by have := hy.2.2; rw [h] at this; exact (Option.some.inj this).symm) rfl (lv_room hst) (by rw [hC.hb]; exact d) (x_pre hC hRq hT)) k.r k.t
theorem xk_VW (hC : Cx cx own cc nL fr lo rt h0) {y : MethodName} {bytes : ByteArray} {maxL idx fr2 lo2 : Nat} {κ b : Nat} {ret : Option FieldType} {As stk : List Value} {hh : List (Nat × Nat × Nat × Nat)} (hM : zM cx.G cx.l y (wsW_ y bytes maxL ret hh) fr2 lo2 (.ref b :: As) h out h')
    (hκ : hK h b = κ) (z : zIs κ = true) (w1 : Cond.methodLink own idx y ∈ lw_all) (w2 : Cond.instanceMethod y ∈ lw_all) (w3 : Cond.selects (zC κ).1 y y ∈ lw_all) (w4 : Cond.codeWith y bytes maxL ret hh ∈ lw_all) (w5 : Cond.initialized y.cls ∈ lw_all)
    (hy : y.cls ≠ "java/lang/invoke/MethodHandle" ∧ y.cls ≠ "java/lang/invoke/VarHandle" ∧ (parseMethodDescriptor y.desc).map (fun d => d.parameters.length) = some As.length) (hR : fr2 + 1 ≤ fr ∧ 8 + (maxL + 11) + lo2 ≤ lo) (hst : (st.map fun v => v.category).sum ≤ 8) (hstk : As.reverse ++ .ref b :: st = stk) (d : decode cc pc = .ok (.invokevirtual idx, 3)) (k : zK cx nL Q h' pc 3 lv st out) : X cx nL Q h pc lv stk := by
  subst hstk
  intro H locs ls hRq hl hlv T hT XS
  obtain ⟨cell, q1, q2, q3⟩ := x_recv hC hRq hκ z
  have hK := z_backW (R := cx.R) (p := cx.p) (e := cx.e) (below := cx.b) (s := cx.s) (sargs := cx.a) (len := 3) (W9 := 8) hM (by rw [hC.rf]; exact hR.1) (by rw [hC.rl]; exact hR.2) (pay_in hC.hts (lw_methW w4)) (pay_in hC.hts lw_self _ w5)
  exact x_after hRq hl hlv hT (vx_callVX XS hC.hx hC.hown (hC.hts _ w1) (hC.hts _ w2) (hC.hts _ w3) (hC.hts _ w4) ⟨hy.1, hy.2.1⟩ hK (by rw [hT]; exact q1) q2 q3 (g := F0 cx.m pc ls (As.reverse ++ .ref b :: st)) rfl (hlv.1.trans hC.hml.symm) (argsL := As) (rest := st) (fun sig h => by have := hy.2.2; rw [h] at this; exact (Option.some.inj this).symm) rfl (lv_room hst) (by rw [hC.hb]; exact d) (x_pre hC hRq hT)) k.r k.t
theorem xk_SW (hC : Cx cx own cc nL fr lo rt h0) {y : MethodName} {bytes : ByteArray} {maxL idx fr2 lo2 : Nat}  {ret : Option FieldType} {As stk : List Value} {hh : List (Nat × Nat × Nat × Nat)} (hM : zM cx.G cx.l y (wsW_ y bytes maxL ret hh) fr2 lo2 As h out h')
    (w1 : Cond.methodLink own idx y ∈ lw_all) (w2 : Cond.static y ∈ lw_all) (w4 : Cond.codeWith y bytes maxL ret hh ∈ lw_all) (w5 : Cond.initialized y.cls ∈ lw_all)
    (hy : y.cls ≠ "java/lang/invoke/MethodHandle" ∧ y.cls ≠ "java/lang/invoke/VarHandle" ∧ (parseMethodDescriptor y.desc).map (fun d => d.parameters.length) = some As.length) (hR : fr2 + 1 ≤ fr ∧ 8 + (maxL + 11) + lo2 ≤ lo) (hst : (st.map fun v => v.category).sum ≤ 8) (hstk : As.reverse ++ st = stk) (d : decode cc pc = .ok (.invokestatic idx, 3)) (k : zK cx nL Q h' pc 3 lv st out) : X cx nL Q h pc lv stk := by
  subst hstk
  intro H locs ls hRq hl hlv T hT XS
  have hK := z_backW (R := cx.R) (p := cx.p) (e := cx.e) (below := cx.b) (s := cx.s) (sargs := cx.a) (len := 3) (W9 := 8) hM (by rw [hC.rf]; exact hR.1) (by rw [hC.rl]; exact hR.2) (pay_in hC.hts (lw_methW w4)) (pay_in hC.hts lw_self _ w5)
  exact x_after hRq hl hlv hT (vx_callSX XS hC.hx hC.hown (hC.hts _ w1) (hC.hts _ w2) (hC.hts _ w5) (hC.hts _ w4) ⟨hy.1, hy.2.1⟩ hK (g := F0 cx.m pc ls (As.reverse ++ st)) rfl (hlv.1.trans hC.hml.symm) (argsL := As) (rest := st) (fun sig h => by have := hy.2.2; rw [h] at this; exact (Option.some.inj this).symm) rfl (lv_room hst) (by rw [hC.hb]; exact d) (x_pre hC hRq hT)) k.r k.t
-- INHERITED
theorem xk_U (hC : Cx cx own cc nL fr lo rt h0) {y : MethodName} {bytes : ByteArray} {maxL idx fr2 lo2 : Nat} {κ b : Nat} {ret : Option FieldType} {As stk : List Value} (hM : zM cx.G cx.l y (ws_ y bytes maxL ret) fr2 lo2 (.ref b :: As) h out h')
    (hκ : hK h b = κ) (z : zIs κ = true) {x : MethodName} {owner : String} (w1 : Cond.methodLink own idx x ∈ lw_all) (w6 : Cond.sameMethod x.cls owner x.name x.desc ∈ lw_all) (w7 : Cond.declares ⟨owner, x.name, x.desc⟩ ∈ lw_tbl) (ho : owner ≠ "java/lang/invoke/MethodHandle" ∧ owner ≠ "java/lang/invoke/VarHandle") (w2 : Cond.instanceMethod y ∈ lw_all) (w3 : Cond.selects (zC κ).1 x y ∈ lw_all) (w4 : Cond.code y bytes maxL ret ∈ lw_all) (w5 : Cond.initialized y.cls ∈ lw_all)
    (hy : y.cls ≠ "java/lang/invoke/MethodHandle" ∧ y.cls ≠ "java/lang/invoke/VarHandle" ∧ (parseMethodDescriptor x.desc).map (fun d => d.parameters.length) = some As.length) (hR : fr2 + 1 ≤ fr ∧ 8 + (maxL + 11) + lo2 ≤ lo) (hst : (st.map fun v => v.category).sum ≤ 8) (hstk : As.reverse ++ .ref b :: st = stk) (d : decode cc pc = .ok (.invokevirtual idx, 3)) (k : zK cx nL Q h' pc 3 lv st out) : X cx nL Q h pc lv stk := by
  subst hstk
  intro H locs ls hRq hl hlv T hT XS
  obtain ⟨cell, q1, q2, q3⟩ := x_recv hC hRq hκ z
  have hK := z_back (R := cx.R) (p := cx.p) (e := cx.e) (below := cx.b) (s := cx.s) (sargs := cx.a) (len := 3) (W9 := 8) hM (by rw [hC.rf]; exact hR.1) (by rw [hC.rl]; exact hR.2) (pay_in hC.hts (lw_meth w4)) (pay_in hC.hts lw_self _ w5)
  exact x_after hRq hl hlv hT (vx_callVU XS hC.hx hC.hown (hC.hts _ w1) (hC.hts _ w6) (va_Decl.abs (hC.decl w7)) ho (hC.hts _ w3) (hC.hts _ w2) (hC.hts _ w4) hK (by rw [hT]; exact q1) q2 q3 (g := F0 cx.m pc ls (As.reverse ++ .ref b :: st)) rfl (hlv.1.trans hC.hml.symm) (argsL := As) (rest := st) (fun sig h => by have := hy.2.2; rw [h] at this; exact (Option.some.inj this).symm) rfl (lv_room hst) (by rw [hC.hb]; exact d) (x_pre hC hRq hT)) k.r k.t
/-- a method ends by a throw: no handler covers -/
theorem x_out (hC : Cx cx own cc nL fr lo rt h0) (hE : ∀ z ∈ cx.c.exceptionTable.toList, covers z pc = false) {E : String} {q : Nat} : XT cx nL (zQ cx h0 (.inr (E, q)) h) h pc lv E q := by
  intro H locs ls st hRq hl hlv hce
  obtain ⟨ce, c1, c2, c3⟩ := hce
  obtain ⟨r, a1, a2, a3⟩ := hRq
  rw [hC.rc] at a2
  rw [hC.rs] at a3
  have h1 := hC.hz
  have h2 := r.1
  intro T hT XS
  obtain ⟨st1, hrun, hend, hW, hsm⟩ := XS.leaveThrown q (g := F0 cx.m pc ls st) rfl rfl rfl hE hC.locks
  have hcell9 : (T.setFrames (.throwing q :: cx.b)).heap[q]? = some ce := by
    show T.heap[q]? = some ce
    rw [hT]; exact c1
  have hh : (T.setFrames (.throwing q :: cx.b)).heap = H := hT
  exact ⟨_, st1, .threw q, hrun, hend, by rw [hh]; exact r, by omega, by omega, by rw [hh]; exact a3, Or.inr ⟨E, q, ce, locs, rfl, rfl, hcell9, c2, c3, hW, hsm.mono (by omega) (by omega), hl⟩⟩
theorem z_U0 {Γ : zG} (g0 : zG0 Γ) : vx_Zq Bundle.tN "UNASSIGNED_STACK" Bundle.steD (fun q => z0 Γ ≤ q) (zS Γ) (zS Γ).heap := vx_Zqof (g0.1 _ q525) (g0.1 _ (lw_all_tbl q108)) (flat_of_before _ g0.2.2.2.1 _ (by decide +kernel)) (fun a h => Nat.not_le.mpr h)
theorem z_N0 {Γ : zG} (g0 : zG0 Γ) : vx_Zq Bundle.tN "SUPPRESSED_SENTINEL" Bundle.listD (fun q => z0 Γ ≤ q) (zS Γ) (zS Γ).heap := vx_Zqof (g0.1 _ q527) (g0.1 _ (lw_all_tbl q108)) (flat_of_before _ g0.2.2.2.1 _ (by decide +kernel)) (fun a h => Nat.not_le.mpr h)
theorem z_tr {l : Launch} (h : l.flags = flags0) : l.stackTraces = false := by
  unfold Launch.stackTraces
  rw [h]
  decide +kernel
/-- throw new X() -/
theorem x_throw0 (hC : Cx cx own cc nL fr lo rt h0) {cls : String} {names : List String} {ik ic : Nat} (hcls : Bundle.fit cls = true) (hnames : ∀ n ∈ names, Bundle.fit n = true)
    (wk : Cond.classLink own ik cls ∈ lw_all) (wi : Cond.initialized cls ∈ lw_all) (hat : ∀ w ∈ vx_at0 own ic cls names, w.before cx.a cx.s = true) (hat2 : ∀ w ∈ vx_at0 own ic cls names, vx_ot w = true) (g1 : 1 ≤ hc h) (g2 : 6 ≤ hs h)
    (hRf : names.length + 3 < fr) (hRl : (st.map fun v => v.category).sum + (13 * (names.length + 1) + 42) ≤ lo)
    (d0 : decode cc pc = .ok (.new ik, 3)) (d3 : decode cc (pc + 3) = .ok (.dup, 1)) (d4 : decode cc (pc + 4) = .ok (.invokespecial ic, 3)) (d7 : decode cc (pc + 7) = .ok (.athrow, 1))
    (kk : XT cx nL Q (nw h 0 0 6) (pc + 7) lv cls (hn h)) : X cx nL Q h pc lv st := by
  intro H locs ls hRq hl hlv T hT X9
  subst hT
  obtain ⟨rp, a1, a2, a3⟩ := id hRq
  have r1 := rp.1
  have htr : cx.e.platform.stackTraces = false := (show cx.e.platform.stackTraces = cx.l.stackTraces by rw [X9.admits.platform]).trans (z_tr hC.fl)
  have Y := vx_rebase X9 (R' := { frames := cx.R.frames, locals := cx.R.locals, cells := 1, slots := 6 }) (Nat.le_refl _) (Nat.le_refl _) (by show _ + 1 ≤ _; omega) (by show _ + 6 ≤ _; omega)
  obtain ⟨s', hA'⟩ : ∃ z, z = (T.setVm cx.s.vm).setFrames (.invoking cx.m cx.a :: cx.b) := ⟨_, rfl⟩
  rw [← hA'] at Y
  have hvm : s'.vm = cx.s.vm := by rw [hA']; rfl
  have hhp : s'.heap = T.heap := by rw [hA']; rfl
  have hW0 : cx.s.WarmedH s'.vm := by rw [hvm]; exact State.WarmedH.refl cx.s
  have hWz : (zS cx.G).WarmedH s'.vm := State.WarmedH.trans hC.warm hW0
  have hat' : ∀ w ∈ vx_at0 own ic cls names, w.before cx.a s' = true := fun w hw => vx_ot_at hW0 hvm.symm (hat2 w hw) (hat w hw)
  have hk' : (Cond.classLink own ik cls).before cx.a s' = true := vx_ot_at hW0 hvm.symm rfl (hC.hts _ wk)
  have hini' : (Cond.initialized cls).before cx.a s' = true := vx_ot_at hW0 hvm.symm rfl (hC.hts _ wi)
  have hU' : vx_Zq Bundle.tN "UNASSIGNED_STACK" Bundle.steD (fun q => z0 cx.G ≤ q) s' s'.heap := by rw [hhp]; exact vx_Zq.moved hWz.alike ((z_U0 hC.g0).kept (fun a h1 h2 => rp.2.2.1 a (Nat.not_le.mp h2)))
  have hN' : vx_Zq Bundle.tN "SUPPRESSED_SENTINEL" Bundle.listD (fun q => z0 cx.G ≤ q) s' s'.heap := by rw [hhp]; exact vx_Zq.moved hWz.alike ((z_N0 hC.g0).kept (fun a h1 h2 => rp.2.2.1 a (Nat.not_le.mp h2)))
  have h9 : ∀ w ∈ Bundle.ownAtoms0 own ic cls names, w.before cx.a s' = true := vx_own hat' (vx_isRefq hU'.1) (vx_isRefq hN'.1) hU'.2.word hN'.2.word
  have hown' : s'.vm.findClass own = some cx.m.cls := by rw [hvm]; exact hC.hown
  have hins : (Cond.instantiable cls 6).before cx.a s' = true := h9 _ (by simp [Bundle.ownAtoms0])
  have hb := hC.hb
  obtain ⟨vm₁, cX, kX, hfX, hkX, -, -, X₁, st1⟩ := Y.newCold hC.hx (own := own) (C := cls) (index := ik) (n := 6) hown' hk' hins hini'
    (g := F0 cx.m pc ls st) rfl (by rw [hb]; exact d0) (Nat.le_refl _) (Nat.le_refl _)
  generalize hT1 : (T.setVm vm₁).pushCell { cls := cX, slots := kX.instanceTypes.map defaultValue, vm := .none } = T1 at X₁ st1
  have hcat : (Value.ref T.heap.size).category = 1 := rfl
  have hcellA : T1.heap[T.heap.size]? = some (freshCell cX kX) := by rw [← hT1]; exact State.heap_pushCell_size _ _
  have d3' : decode cx.c.code (pc + 3) = .ok (.dup, 1) := by rw [hb]; exact d3
  obtain ⟨V, ce, L, Z, hL, hlt, hcl9, hvm9, st9⟩ := vx_ctorMade0 X₁ hC.hx htr (own := own) (cls := cls) (names := names) (ic := ic) hown' hcls hnames h9 (fun x hx => nomatch hx) hfX hkX hcellA (by rw [hhp]; exact Nat.le_refl _)
    (g := { method := cx.m, pc := pc + 4, locals := ls, stack := .ref T.heap.size :: .ref T.heap.size :: st, locked := none }) rfl (hlv.1.trans hC.hml.symm) (rest := st) rfl
    (by rw [hb]; exact d4) (by show _ < cx.R.frames; rw [hC.rf]; exact hRf) (by show _ ≤ cx.R.locals; rw [hC.rl]; simp only [List.map_cons, List.sum_cons, hcat]; omega)
  have Z0 := Stand.forget (locs := []) Z (fun y hy => by rw [hL y hy, hhp]; exact Nat.le_refl _)
  obtain ⟨f1, f2⟩ := vx_frame Z0.same
  have hz9 : (V.setCell T.heap.size ce).heap.size ≤ s'.heap.size + (0 + 1) := Z0.same.2.2.1
  have hs9 : SLs (V.setCell T.heap.size ce).heap s'.heap.size ≤ 0 + 6 := Z0.same.2.2.2.2.1
  rw [hhp] at f1 f2 hz9 hs9
  have hh : (V.setCell T.heap.size ce).heap[T.heap.size]? = some ce := heapAt_setCell_self (s := V) ce hlt
  have hlt9 : T.heap.size < (V.setCell T.heap.size ce).heap.size := (Array.getElem?_eq_some_iff.mp hh).1
  have hz : (V.setCell T.heap.size ce).heap.size = T.heap.size + 1 := by omega
  have hq : ∀ q : Nat, q < T.heap.size → (V.setCell T.heap.size ce).heap[q]? = T.heap[q]? := fun q h1 => f2 q h1 (fun z hz => nomatch hz)
  have hce : ce.slots.size ≤ 6 := by
    have := SLs_push (z := T.heap.size) hz hh hq (Nat.le_refl _)
    rw [SLs_self] at this
    omega
  subst hA'
  have X5 := vx_back9 X9 Y Z0
  have rq : Rq cx (nw h 0 0 6) (V.setCell T.heap.size ce).heap := hRq.new hz hh hq g1 g2 hce (rp.new hz hh hq (fun q => by cases q) (fun q => by cases q))
  have kk9 := kk (V.setCell T.heap.size ce).heap locs ls st rq hl hlv ⟨ce, by rw [← r1]; exact hh, hvm9, by rw [hcl9]; rw [hvm] at hfX; exact hfX⟩
  rw [← r1] at kk9
  obtain ⟨t, b1, b2⟩ := W_tight (vx_athrow hC.hx hC.hb d7 kk9) _ rfl X5
  refine ⟨t, st1 _ ?_, b2⟩
  show Steps cx.p.tables cx.e cx.b (T1.setTop { method := cx.m, pc := pc + 3, locals := ls, stack := .ref T.heap.size :: st, locked := none }) _
  jvm_step X₁.here [X₁.here.top, hC.hx, d3', Value.category]
  exact st9 _ b1
end XK
