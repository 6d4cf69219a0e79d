/-! BASE 7: references stored, arrays of references, casts, constructors, throws of made objects, handlers -/
set_option maxRecDepth 100000
section XR7
variable {cx : zX} {own : String} {cc : ByteArray} {nL fr lo : Nat} {rt : Option FieldType} {h0 : AH} {Q : State → Prop} {h h' : AH} {out : AO} {pc : Nat} {lv lv' : List (Nat × Value)} {st : List Value}
def zRefTy (ty : FieldType) : Bool := match ty with
  | .object _ => true
  | .array _ => true
  | _ => false
theorem z_ref_n {ty : FieldType} (ht : zRefTy ty = true) (o : Option Nat) : narrow ty (rv o) = rv o ∧ fits ty (rv o) = true := by
  cases ty <;> first | (cases o <;> exact ⟨rfl, rfl⟩) | cases ht
theorem z_ref_f {ty : FieldType} (ht : zRefTy ty = true) (h : AH) (a k : Nat) : fv h a ty k = rv (hR h a k) := by
  cases ty <;> first | rfl | cases ht
theorem x_putO (hC : Cx cx own cc nL fr lo rt h0) {κ k idx a : Nat} {o : Option Nat} (e : h' = wR h a k o) (hκ : hK h a = κ) (z : zIs κ = true) (hk : k < (zC κ).2.2) (lk : LkF own idx κ k) (hfin : ((zC κ).2.1 k).2.2.2 = false) (hty : zRefTy (zty κ k) = true) {v : Value} (hv : rv o = v) (d : decode cc pc = .ok (.putfield idx, 3)) (kk : X cx nL Q h' (pc + 3) lv st) : X cx nL Q h pc lv (v :: .ref a :: st) := by
  subst e
  subst hv
  exact x_put (h' := wR h a k o) hC hκ z hk lk hfin (z_ref_n hty o).1 (z_ref_n hty o).2 rfl rfl rfl rfl rfl ((z_ref_f hty _ _ _).trans (congrArg rv (up2_s _ _ _ _))) (wR_o _ _ _ _) d kk
theorem x_putOF (hC : Cx cx own cc nL fr lo rt h0) {κ k idx a : Nat} {o : Option Nat} (e : h' = wR h a k o) (hκ : hK h a = κ) (z : zIs κ = true) (hk : k < (zC κ).2.2) (lk : LkD own idx κ k) (hfin : ((zC κ).2.1 k).2.2.2 = true) (hin2 : cx.M.name = "<init>") (hdecl : ((zC κ).2.1 k).1 = own) (hty : zRefTy (zty κ k) = true) {v : Value} (hv : rv o = v) (d : decode cc pc = .ok (.putfield idx, 3)) (kk : X cx nL Q h' (pc + 3) lv st) : X cx nL Q h pc lv (v :: .ref a :: st) := by
  subst e
  subst hv
  exact x_putF (h' := wR h a k o) hC hκ z hk lk hfin hin2 hdecl (z_ref_n hty o).1 (z_ref_n hty o).2 rfl rfl rfl rfl rfl ((z_ref_f hty _ _ _).trans (congrArg rv (up2_s _ _ _ _))) (wR_o _ _ _ _) d kk
theorem x_putIF (hC : Cx cx own cc nL fr lo rt h0) {κ k idx a : Nat} {v : Int32} (e : h' = wI h a k v) (hκ : hK h a = κ) (z : zIs κ = true) (hk : k < (zC κ).2.2) (lk : LkD own idx κ k) (hfin : ((zC κ).2.1 k).2.2.2 = true) (hin2 : cx.M.name = "<init>") (hdecl : ((zC κ).2.1 k).1 = own) (hty : zty κ k = .int) (d : decode cc pc = .ok (.putfield idx, 3)) (kk : X cx nL Q h' (pc + 3) lv st) : X cx nL Q h pc lv (.int v :: .ref a :: st) := by
  subst e
  exact x_putF (h' := wI h a k v) hC hκ z hk lk hfin hin2 hdecl (by rw [hty]; exact vp_nar_int v) (by rw [hty]; rfl) rfl rfl rfl rfl rfl (by rw [hty]; exact congrArg Value.int (up2_s _ _ _ _)) (wI_o _ _ _ _) d kk
/-- a char kept in a final field -/
theorem x_putCF (hC : Cx cx own cc nL fr lo rt h0) {κ k idx a : Nat} {v : Int32} (e : h' = wI h a k v) (hc9 : i2c v = v) (hκ : hK h a = κ) (z : zIs κ = true) (hk : k < (zC κ).2.2) (lk : LkD own idx κ k) (hfin : ((zC κ).2.1 k).2.2.2 = true) (hin2 : cx.M.name = "<init>") (hdecl : ((zC κ).2.1 k).1 = own) (hty : zty κ k = .char) (d : decode cc pc = .ok (.putfield idx, 3)) (kk : X cx nL Q h' (pc + 3) lv st) : X cx nL Q h pc lv (.int v :: .ref a :: st) := by
  subst e
  refine x_putF (h' := wI h a k v) hC hκ z hk lk hfin hin2 hdecl ?_ ?_ rfl rfl rfl rfl rfl (by rw [hty]; exact congrArg Value.int (up2_s _ _ _ _)) (wI_o _ _ _ _) d kk
  · rw [hty, ← hc9]; exact pk_nc v
  · rw [hty, ← hc9]; exact pk_fc v
theorem x_newE (hC : Cx cx own cc nL fr lo rt h0) {κ idx N : Nat} {C : String} (e : h' = nw h κ 0 N) (z : zIs κ = true) (hN : (zC κ).2.2 = N) (hCn : (zC κ).1 = C) (w1 : Cond.classLink own idx C ∈ lw_all) (w2 : Cond.instantiable C N ∈ lw_all) (w3 : Cond.initialized C ∈ lw_all) (g1 : 1 ≤ hc h) (g2 : N ≤ hs h) (hty : ∀ k, k < (zC κ).2.2 → (match zty κ k with | .float => false | .double => false | _ => true) = true) (d : decode cc pc = .ok (.new idx, 3)) (kk : X cx nL Q h' (pc + 3) lv (.ref (hn h) :: st)) : X cx nL Q h pc lv st := by
  subst e
  subst hN
  subst hCn
  exact x_new hC z w1 w2 w3 g1 g2 hty d kk
theorem x_newaE (hC : Cx cx own cc nL fr lo rt h0) {κ : Nat} {n : Int32} {atype : ArrayType} (e : h' = nw h κ (ix n) (ix n)) (z : zAr κ = true) (ha : aty κ = newarray.typeOf atype) (w : Cond.arrayClass (newarray.typeOf atype) ∈ lw_all) (hty : (match aty κ with | .float => false | .double => false | .object _ => false | .array _ => false | _ => true) = true) (g : 0 ≤ n.toInt ∧ ix n ≤ 1000000 ∧ 1 ≤ hc h ∧ ix n ≤ hs h) (d : decode cc pc = .ok (.newarray atype, 2)) (kk : X cx nL Q h' (pc + 2) lv (.ref (hn h) :: st)) : X cx nL Q h pc lv (.int n :: st) := by
  subst e
  exact x_newa hC z ha w hty g.1 g.2.1 g.2.2.1 g.2.2.2 d kk
theorem x_anewE (hC : Cx cx own cc nL fr lo rt h0) {κ idx : Nat} {n : Int32} {C : String} (e : h' = nw h κ (ix n) (ix n)) (z : zAr κ = true) (ha : aty κ = .object C) (w1 : Cond.classLink own idx C ∈ lw_all) (w2 : Cond.arrayOver (.object C) ∈ lw_tbl) (g : 0 ≤ n.toInt ∧ ix n ≤ 1000000 ∧ 1 ≤ hc h ∧ ix n ≤ hs h) (d : decode cc pc = .ok (.anewarray idx, 3)) (kk : X cx nL Q h' (pc + 3) lv (.ref (hn h) :: st)) : X cx nL Q h pc lv (.int n :: st) := by
  subst e
  obtain ⟨g0, g3, g1, g2⟩ := g
  intro H locs ls hRp hl hlv
  have r1 := hRp.1.1
  obtain ⟨-, a1, a2, a3⟩ := id hRp
  have ho : (Cond.arrayOver (.object C)).before cx.a cx.s = true := va_AO.use (va_AO.moved hC.warm.alike (va_AO.of (hC.g0.1 _ w2)))
  refine W.anew hC.hx hC.hb hC.hown (hC.hts _ w1) ho rfl d rfl (fun q => by rw [Int32.lt_iff_toInt_lt, Int32.toInt_zero] at q; omega) (Nat.le_trans (Nat.mul_le_mul g3 (Nat.le_refl 4)) (by decide)) (by omega) (by have : n.toNatClampNeg ≤ hs h := g2; omega) fun cA kA comp e1 e2 e3 e4 => ?_
  have hcA : cA = cx.G.2.2.1 κ := by
    have q := (hC.ka z).2
    rw [ha] at q
    obtain ⟨kA', comp', q1, q2, q3, q4⟩ := q
    exact Option.some.inj (e1.symm.trans q4)
  subst hcA
  refine W_tight ?_
  rw [r1]
  have z1 : (H.push { cls := cx.G.2.2.1 κ, slots := Array.replicate n.toNatClampNeg .null, vm := .none }).size = H.size + 1 := Array.size_push ..
  have e1 : (H.push { cls := cx.G.2.2.1 κ, slots := Array.replicate n.toNatClampNeg .null, vm := .none })[H.size]? = some { cls := cx.G.2.2.1 κ, slots := Array.replicate n.toNatClampNeg .null, vm := .none } := by rw [Array.getElem?_push, if_pos rfl]
  have o1 : ∀ q, q < H.size → (H.push { cls := cx.G.2.2.1 κ, slots := Array.replicate n.toNatClampNeg .null, vm := .none })[q]? = H[q]? := fun q hq => by rw [Array.getElem?_push, if_neg (by omega)]
  refine kk _ locs ls (hRp.new z1 e1 o1 g1 g2 (by simp) (hRp.1.new z1 e1 o1 (fun q => absurd z (z_not_both q)) (fun _ => ?_))) hl hlv
  rw [← r1, e1, arrV_new, r1, ha]
  congr 2
  funext i
  exact fv_new (ty := .object C) rfl
theorem x_objI (hC : Cx cx own cc nL fr lo rt h0) {idx a : Nat} (w1 : Cond.methodLink own idx Lib.objectInit ∈ lw_all) (w2 : Cond.instanceMethod Lib.objectInit ∈ lw_all) (w3 : Cond.code Lib.objectInit ⟨#[0xb1]⟩ 1 none ∈ lw_all) (hf : 1 ≤ fr) (hl9 : (st.map fun v => v.category).sum + 12 ≤ lo) (d : decode cc pc = .ok (.invokespecial idx, 3)) (kk : X cx nL Q h (pc + 3) lv st) : X cx nL Q h pc lv (.ref a :: st) := fun H locs ls hRp hl hlv => W.objInit hC.hx hC.hb hC.hown (hC.hts _ w1) (hC.hts _ w2) (hC.hts _ w3) rfl (hlv.1.trans hC.hml.symm) rfl d (by rw [hC.rf]; exact hf) (by rw [hC.rl]; show 2 * 0 + _ + 12 ≤ _; omega) (kk H locs ls hRp hl hlv)
def zNm (κ : Nat) : String := if zIs κ = true then (zC κ).1 else "[" ++ (aty κ).toString
theorem x_cls {H : Heap} (hC : Cx cx own cc nL fr lo rt h0) (hRq : Rq cx h H) {b κ : Nat} (hκ : hK h b = κ) (z : zIs κ = true ∨ zAr κ = true) : ∃ (cell : Cell) (k : Class), H[b]? = some cell ∧ cell.vm = .none ∧ cx.s.vm.findClass (zNm κ) = some cell.cls ∧ cx.s.vm.classes[cell.cls]? = some k := by
  rcases z with z | z
  · obtain ⟨-, cell, q1, q2, q3, -⟩ := hRq.1.2.2.2.1 b κ hκ z
    have h1 := (hC.kn z).2
    obtain ⟨k, hk, -⟩ := h1.2
    refine ⟨cell, k, q1, q3, ?_, by rw [q2]; exact hk⟩
    rw [q2, zNm, if_pos z]
    exact h1.1
  · obtain ⟨-, q1⟩ := hRq.1.2.2.2.2.1 b κ hκ z
    have q := (hC.ka z).2
    have h1 : cx.s.vm.findClass (zNm κ) = some (cx.G.2.2.1 κ) := by
      rw [zNm, if_neg (fun e => z_not_both e z)]
      revert q
      cases aty κ <;> first | exact id | (rintro ⟨kA, comp, g1, g2, g3, g4⟩; exact g4)
    obtain ⟨k, hk, -⟩ := Vm.findClass_spec h1
    exact ⟨_, k, q1, rfl, h1, hk⟩
theorem x_cast (hC : Cx cx own cc nL fr lo rt h0) {κ a idx : Nat} {nm : String} (hκ : hK h a = κ) (z : zIs κ = true ∨ zAr κ = true) (w1 : Cond.classLink own idx nm ∈ lw_all) (w2 : Cond.castable (zNm κ) nm ∈ lw_tbl) (d : decode cc pc = .ok (.checkcast idx, 3)) (kk : X cx nL Q h (pc + 3) lv (.ref a :: st)) : X cx nL Q h pc lv (.ref a :: st) := by
  intro H locs ls hRp hl hlv
  obtain ⟨cell, k, c1, c2, c3, -⟩ := x_cls hC hRp hκ z
  exact va_castY hC.hx hC.hb hC.hown (hC.hts _ w1) (hC.cast w2) ⟨cell, c1, by rw [c2]; rfl, c3⟩ d (kk H locs ls hRp hl hlv)
/-- an element of an array of references stored -/
theorem x_aastE (hC : Cx cx own cc nL fr lo rt h0) {κ κv a v : Nat} {i : Int32} {C : String} (e : h' = wR h a (ix i) (some v)) (hκ : hK h a = κ) (z : zAr κ = true) (h120 : κ ≠ 120) (ha : aty κ = .object C) (hκv : hK h v = κv) (zv : zIs κv = true ∨ zAr κv = true) (w : Cond.castable (zNm κv) C ∈ lw_tbl) (hi : inb i (hL h a)) (d : decode cc pc = .ok (.aastore, 1)) (kk : X cx nL Q h' (pc + 1) lv st) : X cx nL Q h pc lv (.ref v :: .int i :: .ref a :: st) := by
  subst e
  intro H locs ls hRp hl hlv
  obtain ⟨hz, q1⟩ := hRp.1.2.2.2.2.1 a κ hκ z
  obtain ⟨cell, k, c1, c2, c3, c4⟩ := x_cls hC hRp hκv zv
  have q := (hC.ka z).2
  rw [ha] at q
  obtain ⟨kA, comp, k1, k2, k3, -⟩ := q
  obtain ⟨kE, hkE, -⟩ := Vm.findClass_spec k3
  obtain ⟨c0, t1, f1, f2, f3⟩ := Cond.castable_spec (va_Nw.use (A := cx.a) rfl (hC.cast w))
  cases c3.symm.trans f1
  cases k3.symm.trans f2
  refine W.aast hC.hx hC.hb q1 (fun q h => by cases h) (fun h => by cases h) k1 k2 rfl hkE ⟨fun q => by rw [Int32.lt_iff_toInt_lt, Int32.toInt_zero] at q; omega, by rw [arrV_size]; exact inb_lt hi⟩ c1 (fun q h => by rw [c2] at h; cases h) c4 f3 rfl rfl d fun H1 e z9 oq => ?_
  have e' := e
  rw [arrV_store] at e
  refine W_tight (kk H1 _ ls (hRp.put q1 e' z9 oq rfl rfl rfl (hRp.1.putA (h120 := h120) (h' := wR h a (ix i) (some v)) (k := ix i) (v := .ref v) hκ z e z9 oq rfl rfl rfl ?_ (wR_o _ _ _ _))) (t_lc hl (hz h120)) hlv)
  rw [ha]
  exact congrArg rv (up2_s _ _ _ _)
/-- a cast to the object's own class -/
theorem x_castS (hC : Cx cx own cc nL fr lo rt h0) {κ a idx : Nat} {C : String} (hκ : hK h a = κ) (z : zIs κ = true) (hCn : (zC κ).1 = C) (w1 : Cond.classLink own idx C ∈ lw_all) (d : decode cc pc = .ok (.checkcast idx, 3)) (kk : X cx nL Q h (pc + 3) lv (.ref a :: st)) : X cx nL Q h pc lv (.ref a :: st) := by
  subst hCn
  intro H locs ls hRp hl hlv T hT XS
  obtain ⟨cell, q1, q2, q3⟩ := x_recv hC hRp hκ z
  have hK := (hC.kn z).2
  have e1 : cell.cls = cx.G.1 κ := Option.some.inj (q3.symm.trans hK.1)
  obtain ⟨vm', X', st9⟩ := XS.checkcastYes hC.hx hC.hown (hC.hts _ w1) (by rw [hT]; exact q1) q2 q3 (by rw [e1]; exact va_assign hK) (g := F0 cx.m pc ls (.ref a :: st)) rfl rfl (by rw [hC.hb]; exact d)
  obtain ⟨t, a1, b1⟩ := kk H locs ls hRp hl hlv (T.setVm vm') hT X'
  exact ⟨t, st9 t a1, b1⟩
theorem x_castI (hC : Cx cx own cc nL fr lo rt h0) {a idx : Nat} (hκ : hK h a = 100) (w1 : Cond.classLink own idx "[I" ∈ lw_all) (d : decode cc pc = .ok (.checkcast idx, 3)) (kk : X cx nL Q h (pc + 3) lv (.ref a :: st)) : X cx nL Q h pc lv (.ref a :: st) := by
  intro H locs ls hRp hl hlv
  obtain ⟨-, q1⟩ := hRp.1.2.2.2.2.1 a 100 hκ rfl
  exact va_castA (D := (cx.G.1, cx.G.2.1)) (cl := []) (ws := [(a, .inl (cx.G.2.2.1 100, hL h a, .inl (hI h a)))]) (cA := cx.G.2.2.1 100) hC.hx hC.hb hC.hown (hC.hts _ w1) (fun k q hk => by
    have hz : k < 1 := (List.getElem?_eq_some_iff.mp hk).1
    rw [show k = 0 by omega] at hk
    cases hk
    exact q1) 0 rfl (hC.ka (κ := 100) rfl).2 d (kk H locs ls hRp hl hlv)
theorem x_athrow (hC : Cx cx own cc nL fr lo rt h0) {κ q : Nat} (hκ : hK h q = κ) (z : zIs κ = true) (d : decode cc pc = .ok (.athrow, 1)) (kk : XT cx nL Q h pc lv (zC κ).1 q) : X cx nL Q h pc lv (.ref q :: st) := by
  intro H locs ls hRp hl hlv
  obtain ⟨-, cell, q1, q2, q3, -⟩ := hRp.1.2.2.2.1 q κ hκ z
  exact vx_athrow hC.hx hC.hb d (kk H locs ls st hRp hl hlv ⟨cell, q1, q3, by rw [q2]; exact (hC.kn z).2.1⟩)
theorem x_aloadO_n (hC : Cx cx own cc nL fr lo rt h0) {k : Fin 4} {o : Option Nat} {v : Value} (hv : rv o = v) (d : decode cc pc = .ok (.aload_n k, 1)) (j : Nat) (hj : lv[j]? = some ((k : Nat), v)) (kk : X cx nL Q h (pc + 1) lv (v :: st)) : X cx nL Q h pc lv st := by
  subst hv
  intro H locs ls a b c
  cases o with
  | none => exact lv_aload_nN hC.hx hC.hb d rfl (lv_at c j hj) (kk H locs ls a b c)
  | some x => exact lv_aload_n hC.hx hC.hb d rfl (lv_at c j hj) (kk H locs ls a b c)
theorem x_aloadO (hC : Cx cx own cc nL fr lo rt h0) {i : Nat} {o : Option Nat} {v : Value} (hv : rv o = v) (d : decode cc pc = .ok (.aload i, 2)) (j : Nat) (hj : lv[j]? = some (i, v)) (kk : X cx nL Q h (pc + 2) lv (v :: st)) : X cx nL Q h pc lv st := by
  subst hv
  intro H locs ls a b c
  cases o with
  | none => exact lv_aloadN hC.hx hC.hb d (lv_at c j hj) (kk H locs ls a b c)
  | some x => exact lv_aload hC.hx hC.hb d (lv_at c j hj) (kk H locs ls a b c)
theorem x_acmp_eq (hC : Cx cx own cc nL fr lo rt h0) {x y : Nat} {off : Int} {tgt : Nat} (d : decode cc pc = .ok (.if_acmp .eq off, 3)) (ht : (pc : Int) + off = (tgt : Int)) (kt : x = y → X cx nL Q h tgt lv st) (kf : ¬ x = y → X cx nL Q h (pc + 3) lv st) : X cx nL Q h pc lv (.ref y :: .ref x :: st) := fun H locs ls a b c => lv_acmp_eq (rx := some x) (ry := some y) hC.hx hC.hb d ht (fun q => kt (Option.some.inj q) H locs ls a b c) (fun q => kf (fun e => q (congrArg some e)) H locs ls a b c)
/-- the length of a list's row: its own one, or the empty one that all share -/
theorem x_alen2 (hC : Cx cx own cc nL fr lo rt h0) {a : Nat} (hκ : hK h a = 108 ∨ hK h a = 120) (d : decode cc pc = .ok (.arraylength, 1)) (kk : X cx nL Q h (pc + 1) lv (.int (Int32.ofNat (hL h a)) :: st)) : X cx nL Q h pc lv (.ref a :: st) := by
  rcases hκ with q | q
  · exact x_alen hC q rfl d kk
  · exact x_alen hC q rfl d kk
/-- kinds of what lists hold -/
abbrev okE (κ : Nat) : Prop := κ = 9 ∨ κ = 10 ∨ κ = 11 ∨ κ = 21 ∨ κ = 100
theorem okE_z {κ : Nat} (h : okE κ) : zIs κ = true ∨ zAr κ = true := by
  rcases h with rfl | rfl | rfl | rfl | rfl
  · exact Or.inl rfl
  · exact Or.inl rfl
  · exact Or.inl rfl
  · exact Or.inl rfl
  · exact Or.inr rfl
theorem okE_c {κ : Nat} (h : okE κ) : Cond.castable (zNm κ) "java/lang/Object" ∈ lw_tbl := by
  rcases h with rfl | rfl | rfl | rfl | rfl
  · exact q2421
  · exact q2423
  · exact q2424
  · exact q2432
  · exact q2450
theorem x_aastO (hC : Cx cx own cc nL fr lo rt h0) {a v : Nat} {i : Int32} (e : h' = wR h a (ix i) (some v)) (hκ : hK h a = 108) (hv : okE (hK h v)) (hi : inb i (hL h a)) (d : decode cc pc = .ok (.aastore, 1)) (kk : X cx nL Q h' (pc + 1) lv st) : X cx nL Q h pc lv (.ref v :: .int i :: .ref a :: st) := x_aastE hC e hκ rfl (by decide) rfl rfl (okE_z hv) (okE_c hv) hi d kk
end XR7
/-- exceptions by number -/
def zE (n : Nat) : String := match n with
  | 1 => "java/lang/IllegalStateException"
  | 2 => "java/lang/IllegalArgumentException"
  | 3 => "java/util/NoSuchElementException"
  | 4 => "java/lang/IndexOutOfBoundsException"
  | 5 => "PumpCrossing$Bad"
  | 6 => "java/lang/ArrayIndexOutOfBoundsException"
  | 7 => "java/lang/NullPointerException"
  | _ => "java/lang/NegativeArraySizeException"
/-- a method's end: returned, or threw (class, address) -/
abbrev ER (T : Type) : Type := (T × AH) ⊕ (Nat × Nat × AH)
def eh {T : Type} (r : ER T) : AH := match r with
  | .inl p => p.2
  | .inr p => p.2.2
def eoI (r : ER Int32) : AO := match r with
  | .inl p => .inl (some (.int p.1))
  | .inr p => .inr (zE p.1, p.2.1)
def eoJ (r : ER Int64) : AO := match r with
  | .inl p => .inl (some (.long p.1))
  | .inr p => .inr (zE p.1, p.2.1)
def eoR (r : ER Nat) : AO := match r with
  | .inl p => .inl (some (.ref p.1))
  | .inr p => .inr (zE p.1, p.2.1)
def eoV (r : ER Unit) : AO := match r with
  | .inl _ => .inl none
  | .inr p => .inr (zE p.1, p.2.1)
/-- a call that may throw -/
def ec {T α : Type} (x : Option (ER T)) (A : T → AH → Option α) (B : Nat → Nat → AH → Option α) : Option α := match x with
  | none => none
  | some (.inl p) => A p.1 p.2
  | some (.inr p) => B p.1 p.2.1 p.2.2
theorem ec_e {T α : Type} {x : Option (ER T)} {A : T → AH → Option α} {B : Nat → Nat → AH → Option α} {r : α} (h : ec x A B = some r) : (∃ v h1, x = some (.inl (v, h1)) ∧ A v h1 = some r) ∨ ∃ E q h1, x = some (.inr (E, q, h1)) ∧ B E q h1 = some r := by
  cases x with
  | none => cases h
  | some y => cases y with
    | inl p => exact Or.inl ⟨p.1, p.2, rfl, h⟩
    | inr p => exact Or.inr ⟨p.1, p.2.1, p.2.2, rfl, h⟩
