/-! BASE 11: text constants -/
set_option maxRecDepth 100000
section XS
variable {cx : zX} {own : String} {cc : ByteArray} {nL fr lo : Nat} {rt : Option FieldType} {h0 : AH} {Q : State → Prop} {h h' : AH} {out : AO} {pc : Nat} {lv lv' : List (Nat × Value)} {st : List Value}
theorem Rq.old {H : Heap} (r : Rq cx h H) : ∀ a : Nat, a < (zS cx.G).heap.size → ¬ z0 cx.G ≤ a → H[a]? = (zS cx.G).heap[a]? := fun a _ h2 => r.1.2.2.1 a (Nat.not_le.mp h2)
theorem x_ldcS (hC : Cx cx own cc nL fr lo rt h0) {idx : Nat} (s : Nat) (hs9 : s < 48) (h1 : (sAt s).1 = own) (h2 : (sAt s).2.1 = idx) (d : decode cc pc = .ok (.ldc idx, 2)) (kk : X cx nL Q h (pc + 2) lv (.ref (zAd cx.G s) :: st)) : X cx nL Q h pc lv st := by
  intro H locs ls hRp hl hlv
  have hz := vk_R.warm hC.warm (hC.g0.2.2.2.2 s hs9).1
  rw [h1, h2] at hz
  exact va_ldcS hC.hx hC.hb hC.hown hz d (kk H locs ls hRp hl hlv)
theorem x_sget (hC : Cx cx own cc nL fr lo rt h0) {idx s : Nat} {n d9 : String} {v : Value} (hv : s < 48 → va_OF "java/lang/String" n d9 v (zAd cx.G s) (fun q => z0 cx.G ≤ q) (zS cx.G) (zS cx.G).heap) (hs9 : s < 48) (w : Cond.fieldLink own idx "java/lang/String" n d9 ∈ lw_all) (d : decode cc pc = .ok (.getfield idx, 3)) (kk : X cx nL Q h (pc + 3) lv (v :: st)) : X cx nL Q h pc lv (.ref (zAd cx.G s) :: st) := by
  intro H locs ls hRp hl hlv
  obtain ⟨cf, k, fi, f, cell, h1, h2, h3, h4, h5, h6⟩ := ((hv hs9).moved hC.warm.alike).kept hRp.old
  exact W.getf hC.hx hC.hb hC.hown (hC.hts _ w) h1 h2 h3 h4 (v := v) h5 rfl rfl d (kk H locs ls hRp hl hlv)
theorem x_sval (hC : Cx cx own cc nL fr lo rt h0) {idx s : Nat} (hs9 : s < 48) (w : Cond.fieldLink own idx "java/lang/String" "value" "[B" ∈ lw_all) (d : decode cc pc = .ok (.getfield idx, 3)) (kk : X cx nL Q h (pc + 3) lv (.ref (zAv cx.G s) :: st)) : X cx nL Q h pc lv (.ref (zAd cx.G s) :: st) := x_sget hC (fun q => (hC.g0.2.2.2.2 s q).2.2.2.1) hs9 w d kk
theorem x_scod (hC : Cx cx own cc nL fr lo rt h0) {idx s : Nat} (hs9 : s < 48) (w : Cond.fieldLink own idx "java/lang/String" "coder" "B" ∈ lw_all) (d : decode cc pc = .ok (.getfield idx, 3)) (kk : X cx nL Q h (pc + 3) lv (.int 0 :: st)) : X cx nL Q h pc lv (.ref (zAd cx.G s) :: st) := x_sget hC (fun q => (hC.g0.2.2.2.2 s q).2.2.1) hs9 w d kk
theorem x_slen (hC : Cx cx own cc nL fr lo rt h0) {s : Nat} (hs9 : s < 48) (d : decode cc pc = .ok (.arraylength, 1)) (kk : X cx nL Q h (pc + 1) lv (.int (Int32.ofNat (sLen s)) :: st)) : X cx nL Q h pc lv (.ref (zAv cx.G s) :: st) := by
  intro H locs ls hRp hl hlv
  obtain ⟨cell, h1, h2, h3, h4, h5, h6⟩ := ((hC.g0.2.2.2.2 s hs9).2.2.2.2.moved hC.warm.alike).kept hRp.old
  exact W.alen hC.hx hC.hb h1 h2 h5 rfl rfl d (kk H locs ls hRp hl hlv)
theorem x_tald (hC : Cx cx own cc nL fr lo rt h0) {s : Nat} {i : Int32} (hs9 : s < 48) (hi : inb i (sLen s)) (d : decode cc pc = .ok (.baload, 1)) (kk : X cx nL Q h (pc + 1) lv (.int (sByt s (ix i)) :: st)) : X cx nL Q h pc lv (.int i :: .ref (zAv cx.G s) :: st) := by
  intro H locs ls hRp hl hlv
  obtain ⟨cell, h1, h2, h3, h4, h5, h6, -⟩ := ((hC.g0.2.2.2.2 s hs9).2.2.2.2.moved hC.warm.alike).kept hRp.old
  have hlt := inb_lt hi
  exact W.bald (v := .int (sByt s (ix i))) hC.hx hC.hb h1 h2 h3 (fun q => by rcases q with q | q; exact inb_vp hi (Or.inl q); have : ix i < sLen s := hlt; have q' : cell.slots.size ≤ ix i := q; omega) (h6 _ hlt) rfl rfl d (kk H locs ls hRp hl hlv)
/-- a method of String, on a constant -/
theorem xk_T (hC : Cx cx own cc nL fr lo rt h0) {y : MethodName} {bytes : ByteArray} {maxL idx fr2 lo2 : Nat} {s : Nat} {ret : Option FieldType} {As stk : List Value} (hM : zM cx.G cx.l y (ws_ y bytes maxL ret) fr2 lo2 (.ref (zAd cx.G s) :: As) h out h')
    (hs9 : s < 48) (w1 : Cond.methodLink own idx y ∈ lw_all) (w2 : Cond.instanceMethod y ∈ lw_all) (w3 : Cond.selects "java/lang/String" y y ∈ lw_all) (w4 : Cond.code y bytes maxL ret ∈ lw_all) (w5 : Cond.initialized y.cls ∈ lw_all)
    (hy : y.cls ≠ "java/lang/invoke/MethodHandle" ∧ y.cls ≠ "java/lang/invoke/VarHandle" ∧ (parseMethodDescriptor y.desc).map (fun d => d.parameters.length) = some As.length) (hR : fr2 + 1 ≤ fr ∧ 8 + (maxL + 11) + lo2 ≤ lo) (hst : (st.map fun v => v.category).sum ≤ 8) (hstk : As.reverse ++ .ref (zAd cx.G s) :: st = stk) (d : decode cc pc = .ok (.invokevirtual idx, 3)) (k : zK cx nL Q h' pc 3 lv st out) : X cx nL Q h pc lv stk := by
  subst hstk
  intro H locs ls hRq hl hlv T hT XS
  obtain ⟨cell, q1, q2, q3, -⟩ := ((hC.g0.2.2.2.2 s hs9).2.1.moved hC.warm.alike).kept hRq.old
  have hK := z_back (R := cx.R) (p := cx.p) (e := cx.e) (below := cx.b) (s := cx.s) (sargs := cx.a) (len := 3) (W9 := 8) hM (by rw [hC.rf]; exact hR.1) (by rw [hC.rl]; exact hR.2) (pay_in hC.hts (lw_meth w4)) (pay_in hC.hts lw_self _ w5)
  exact x_after hRq hl hlv hT (vx_callV XS hC.hx hC.hown (hC.hts _ w1) (hC.hts _ w2) (hC.hts _ w3) (hC.hts _ w4) ⟨hy.1, hy.2.1⟩ hK (by rw [hT]; exact q1) q2 q3 (g := F0 cx.m pc ls (As.reverse ++ .ref (zAd cx.G s) :: st)) rfl (hlv.1.trans hC.hml.symm) (argsL := As) (rest := st) (fun sig h => by have := hy.2.2; rw [h] at this; exact (Option.some.inj this).symm) rfl (lv_room hst) (by rw [hC.hb]; exact d) (x_pre hC hRq hT)) k.r k.t
theorem z_cs {Γ : zG} (g0 : zG0 Γ) : va_Z "java/lang/String" "COMPACT_STRINGS" "Z" (.int 1) (fun q => z0 Γ ≤ q) (zS Γ) (zS Γ).heap := va_Zof (g0.1 _ q862) (g0.1 _ (lw_all_tbl q125)) (va_eqi (flat_of_before _ g0.2.2.2.1 (Cond.eq (.static "java/lang/String" "COMPACT_STRINGS" "Z") (.int 1)) (by decide +kernel))) (fun a h => Nat.not_le.mpr h)
/-- getstatic of String.COMPACT_STRINGS -/
theorem x_getcs (hC : Cx cx own cc nL fr lo rt h0) {idx : Nat} (w : Cond.fieldLink own idx "java/lang/String" "COMPACT_STRINGS" "Z" ∈ lw_all) (d : decode cc pc = .ok (.getstatic idx, 3)) (kk : X cx nL Q h (pc + 3) lv (.int 1 :: st)) : X cx nL Q h pc lv st := by
  intro H locs ls hRp hl hlv
  obtain ⟨cf, kf, fi, f, a, cell, h1, h2, h3, h4, h5, h6, h7, h8⟩ := (z_cs hC.g0).moved hC.warm.alike
  exact W.gets hC.hx hC.hb hC.hown (hC.hts _ w) h1 h2 h3 h4 (by rw [hRp.1.2.2.1 a (by omega)]; exact h5) (fun e => by rw [e] at h6; cases h6) h7 rfl d (kk H locs ls hRp hl hlv)
theorem z_ldcwS {p : Program} {l : Launch} {e : Env} {R : Room} {s : State} {m : MethodId} {args : Array Value} {below : List Frame} {meth : Method} {c : Code} {T : State} {locs : List Loc} {cells slots : Nat}
    (X : Stand p l e R s m args below meth c T locs cells slots) (hexec : p.tables.exec = Jvm.exec) {own text : String} {index : Nat} {a : Addr} (hown : s.vm.findClass own = some m.cls)
    (hconst : (Cond.stringRef own index text).before #[] s = true) (hev : (Term.string own index).eval #[] s none [] s = some (.ref a)) {g : JFrame} (hg : g.method = m) (hdg : decode c.code g.pc = .ok (.ldc_w index, 3)) :
    ∀ target, Steps p.tables e below (T.setTop { g with pc := g.pc + 3, stack := .ref a :: g.stack }) target → Steps p.tables e below (T.setTop g) target := by
  obtain ⟨k, cf, i, a', hk, hcf, hcp, -, hr, hev'⟩ := Cond.stringRef_spec hown hconst
  cases hev.symm.trans hev'
  obtain ⟨k', hk', he⟩ := X.warmed.alike.2.2 _ _ hk
  have hr' : k'.resolved[index]? = some (some (.string a)) := by
    rcases X.warmed.entry hk hk' index with h | ⟨h, -⟩
    · rw [h]; exact hr
    · rw [hr] at h; cases h
  intro target hrest
  subst hg
  jvm_step X.here [hexec, hdg, ldc_w.wp_string (e := e) (s := T) (f := g) X.here.top hk' (by rw [he]; exact hcf) hcp hr']
  exact hrest
theorem x_ldcwS (hC : Cx cx own cc nL fr lo rt h0) {idx : Nat} (s : Nat) (hs9 : s < 48) (h1 : (sAt s).1 = own) (h2 : (sAt s).2.1 = idx) (d : decode cc pc = .ok (.ldc_w idx, 3)) (kk : X cx nL Q h (pc + 3) lv (.ref (zAd cx.G s) :: st)) : X cx nL Q h pc lv st := by
  intro H locs ls hRp hl hlv T hT XS
  have hz := vk_R.warm hC.warm (hC.g0.2.2.2.2 s hs9).1
  rw [h1, h2] at hz
  obtain ⟨t, a, b⟩ := kk H locs ls hRp hl hlv T hT XS
  exact ⟨t, z_ldcwS XS hC.hx hC.hown hz.1 hz.2 (g := F0 cx.m pc ls st) rfl (by rw [hC.hb]; exact d) t a, b⟩
/-- null into a list's row -/
theorem x_aastN (hC : Cx cx own cc nL fr lo rt h0) {a : Nat} {i : Int32} (e : h' = wR h a (ix i) none) (hκ : hK h a = 108) (hi : inb i (hL h a)) (d : decode cc pc = .ok (.aastore, 1)) (kk : X cx nL Q h' (pc + 1) lv st) : X cx nL Q h pc lv (.null :: .int i :: .ref a :: st) := by
  subst e
  intro H locs ls hRp hl hlv
  obtain ⟨hz, q1⟩ := hRp.1.2.2.2.2.1 a 108 hκ rfl
  refine va_WaastN (C := "java/lang/Object") hC.hx hC.hb q1 ((hC.ka (κ := 108) rfl).1 _ _) (fun h => by cases h) (by rw [arrV_size]; exact inb_vp hi) rfl rfl d fun H1 e z9 oq => ?_
  have e' := e
  rw [arrV_store] at e
  refine W_tight (kk H1 _ ls (hRp.put q1 e' z9 oq rfl rfl rfl (hRp.1.putA (h120 := by decide) (h' := wR h a (ix i) none) (k := ix i) (v := .null) hκ rfl e z9 oq rfl rfl rfl ?_ (wR_o _ _ _ _))) (t_lc hl (hz (by decide))) hlv)
  exact congrArg rv (up2_s _ _ _ _)
end XS
