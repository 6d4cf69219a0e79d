/-! BASE 10: System.arraycopy -/
set_option maxRecDepth 100000
def cpI (h : AH) (a b sp dp n : Nat) : AH := (hn h, hc h, hs h, hK h, hL h, (fun c j => if c = b then va_cpy (hI h a) (hI h b) sp dp n j else hI h c j), hJ h, hR h)
def cpR (h : AH) (a b sp dp n : Nat) : AH := (hn h, hc h, hs h, hK h, hL h, hI h, hJ h, (fun c j => if c = b then va_cpy (hR h a) (hR h b) sp dp n j else hR h c j))
/-- an array written as a whole -/
theorem Rp.setA {Γ : zG} {h h' : AH} {H H1 : Heap} (r : Rp Γ h H) {a κ : Nat} (hκ : hK h a = κ) (z : zAr κ = true) (h120 : κ ≠ 120) {F : Nat → Value} (e1 : H1[a]? = some (arrV (Γ.2.2.1 κ) (hL h a) F)) (e2 : H1.size = H.size) (e3 : ∀ q, q ≠ a → H1[q]? = H[q]?)
    (n1 : hn h' = hn h) (n3 : hK h' = hK h) (n4 : hL h' = hL h) (hv : ∀ i, fv h' a (aty κ) i = F i) (ho : ∀ b j, b ≠ a → hI h' b j = hI h b j ∧ hJ h' b j = hJ h b j ∧ hR h' b j = hR h b j) : Rp Γ h' H1 := by
  obtain ⟨r1, r2, r6, hO, hA, hSt⟩ := r
  have hlt : z0 Γ ≤ a := (Rp.lt (h := h) ⟨r1, r2, r6, hO, hA, hSt⟩ hκ (Or.inr z)).1 h120
  have hp := hSt.2.1
  refine ⟨by rw [e2, n1, r1], by rw [n1]; exact r2, fun q hq => by rw [e3 q (by omega)]; exact r6 q hq, fun b κ' hb z' => ?_, fun b κ' hb z' => ?_, fun j C n d hj => by rw [(ho 0 j (by omega)).2.2]; exact hSt.1 j C n d hj, hSt.2.1, fun ε hε => by rw [(ho 0 0 (by omega)).2.2] at hε; rw [n3, n4]; exact hSt.2.2 ε hε⟩
  · rw [n3] at hb
    obtain ⟨g1, cb, g2, g3, g4, g5⟩ := hO b κ' hb z'
    have hba : b ≠ a := fun q => by
      subst q
      have hkk : κ' = κ := hb.symm.trans hκ
      subst hkk
      exact z_not_both z' z
    refine ⟨g1, cb, (e3 b hba).trans g2, g3, g4, fun j hj => ?_⟩
    rw [g5 j hj]
    obtain ⟨o1, o2, o3⟩ := ho b j hba
    exact congrArg some (fv_int o1 o2 o3).symm
  · rw [n3] at hb
    obtain ⟨g1, g2⟩ := hA b κ' hb z'
    refine ⟨g1, ?_⟩
    by_cases hba : b = a
    · subst hba
      have hkk : κ' = κ := hb.symm.trans hκ
      subst hkk
      rw [e1, n4]
      congr 2
      funext i
      exact (hv i).symm
    · rw [e3 b hba, g2, n4]
      congr 2
      funext i
      obtain ⟨o1, o2, o3⟩ := ho b i hba
      exact (fv_int o1 o2 o3).symm
theorem Rq.setA {x : zX} {h h' : AH} {H H1 : Heap} {a n : Nat} {c : ClassId} {F G : Nat → Value} (r : Rq x h H) (q1 : H[a]? = some (arrV c n F)) (e1 : H1[a]? = some (arrV c n G)) (e2 : H1.size = H.size) (e3 : ∀ q, q ≠ a → H1[q]? = H[q]?) (n1 : hn h' = hn h) (n0 : hc h' = hc h) (n2 : hs h' = hs h) (k : Rp x.G h' H1) : Rq x h' H1 := by
  obtain ⟨-, a1, a2, a3⟩ := r
  have hsl : SLs H1 x.s.heap.size = SLs H x.s.heap.size := by
    refine SLs_same e2 fun q => ?_
    by_cases hq : q = a
    · subst hq
      rw [e1, q1]
      simp [arrV_size]
    · rw [e3 q hq]
  exact ⟨k, by rw [n1]; exact a1, by rw [n1, n0]; exact a2, by rw [hsl, n2]; exact a3⟩
theorem cl_toInt (z : Int32) (hz : 0 ≤ z.toInt) : z.toInt = (z.toNatClampNeg : Int) := by
  show z.toInt = ((z.toInt.toNat : Nat) : Int)
  omega
theorem n_lt0 {z : Int32} (hz : 0 ≤ z.toInt) : ¬ z < 0 := fun q => by rw [Int32.lt_iff_toInt_lt, Int32.toInt_zero] at q; omega
section XCp
variable {cx : zX} {own : String} {cc : ByteArray} {nL fr lo : Nat} {rt : Option FieldType} {h0 : AH} {Q : State → Prop} {h h' : AH} {pc : Nat} {lv lv' : List (Nat × Value)} {st : List Value}
/-- ints or bytes -/
theorem x_copyI (hC : Cx cx own cc nL fr lo rt h0) {κ idx a b : Nat} {sp dp n : Int32} (e : h' = cpI h a b (ix sp) (ix dp) (ix n)) (hκ : hK h a = κ ∧ hK h b = κ) (z : κ = 100 ∨ κ = 101) (g : 0 ≤ sp.toInt ∧ 0 ≤ dp.toInt ∧ 0 ≤ n.toInt ∧ ix sp + ix n ≤ hL h a ∧ ix dp + ix n ≤ hL h b) (hfit : ∀ i, i < ix n → fits (aty κ) (.int (hI h a (ix sp + i))) = true)
    (w1 : Cond.methodLink own idx arraycopyName ∈ lw_all) (w2 : Cond.native arraycopyName ∈ lw_all) (w3 : Cond.static arraycopyName ∈ lw_all) (w4 : Cond.initialized "java/lang/System" ∈ lw_all) (hf : 1 ≤ fr) (hl9 : (st.map fun v => v.category).sum + (nativeFrameWords "java/lang/System" "arraycopy" 5 + 11) ≤ lo) (d : decode cc pc = .ok (.invokestatic idx, 3)) (kk : X cx nL Q h' (pc + 3) lv st) : X cx nL Q h pc lv (.int n :: .int dp :: .ref b :: .int sp :: .ref a :: st) := by
  subst e
  obtain ⟨g1, g2, g3, g4, g5⟩ := g
  have g4' : sp.toNatClampNeg + n.toNatClampNeg ≤ hL h a := g4
  have g5' : dp.toNatClampNeg + n.toNatClampNeg ≤ hL h b := g5
  have zz : zAr κ = true := by rcases z with rfl | rfl <;> rfl
  have z120 : κ ≠ 120 := by rcases z with rfl | rfl <;> decide
  have hprim : refKind (aty κ) = false := by rcases z with rfl | rfl <;> rfl
  have hfv : ∀ (h : AH) (c : Nat), (fun i => fv h c (aty κ) i) = fun i => Value.int (hI h c i) := by rcases z with rfl | rfl <;> intros <;> rfl
  intro H locs ls hRp hl hlv T hT X
  obtain ⟨-, ca⟩ := hRp.1.2.2.2.2.1 a κ hκ.1 zz
  obtain ⟨hz, cb⟩ := hRp.1.2.2.2.2.1 b κ hκ.2 zz
  rw [hfv] at ca cb
  obtain ⟨-, k0, hk0, cm0, hkk0⟩ := (hC.ka zz).1 (hL h a) (fun j => .int (hI h a j))
  obtain ⟨-, k1, hk1, cm1, hkk1⟩ := (hC.ka zz).1 (hL h b) (fun j => .int (hI h b j))
  obtain ⟨vm', X', step⟩ := X.arraycopy hC.hx hC.hown (hC.hts _ w1) (hC.hts _ w2) (hC.hts _ w3) (hC.hts _ w4) (src := a) (dst := b) (cs := arrV (cx.G.2.2.1 κ) (hL h a) (fun j => .int (hI h a j))) (cd := arrV (cx.G.2.2.1 κ) (hL h b) (fun j => .int (hI h b j))) (srcPos := sp) (destPos := dp) (n := n) (by rw [hT]; exact ca) (by rw [hT]; exact cb)
    (fun _ h => by cases h) (fun _ h => by cases h) (fun h => by cases h) (fun h => by cases h) hk0 hk1 hkk0 hkk1 (by simp [hprim]) (n_lt0 g1) (n_lt0 g2) (n_lt0 g3)
    (by rw [cl_toInt sp g1, cl_toInt n g3, arrV_size]; omega)
    (by rw [cl_toInt dp g2, cl_toInt n g3, arrV_size]; omega)
    (fun vm₁ _ i hi => by
      have hi' : i < n.toNatClampNeg := hi
      have e : (arrV (cx.G.2.2.1 κ) (hL h a) (fun j => .int (hI h a j))).slots.getD (sp.toNatClampNeg + i) .null = .int (hI h a (sp.toNatClampNeg + i)) := by
        rw [Array.getD_eq_getD_getElem?, arrV_read _ _ (by omega)]
        rfl
      refine ⟨?_, ?_⟩
      · rw [e]
        exact hfit i hi
      · rw [e]
        exact trivial)
    (g := F0 cx.m pc ls (.int n :: .int dp :: .ref b :: .int sp :: .ref a :: st)) rfl (hlv.1.trans hC.hml.symm) (rest := st) rfl (by rw [hC.hb]; exact d) (by rw [hC.rf]; exact hf) (by rw [hC.rl]; show 2 * 0 + _ + _ ≤ _; omega)
  have e1 : copied (arrV (cx.G.2.2.1 κ) (hL h a) (fun j => .int (hI h a j))) (arrV (cx.G.2.2.1 κ) (hL h b) (fun j => .int (hI h b j))) sp dp n = arrV (cx.G.2.2.1 κ) (hL h b) (fun j => .int (va_cpy (hI h a) (hI h b) (ix sp) (ix dp) (ix n) j)) := va_copied (fun z => .int z) _ _ (hI h a) (hI h b) g4
  rw [e1] at X' step
  have hlt : b < H.size := (Array.getElem?_eq_some_iff.mp cb).1
  have hheap : ((T.setVm vm').setCell b (arrV (cx.G.2.2.1 κ) (hL h b) (fun j => .int (va_cpy (hI h a) (hI h b) (ix sp) (ix dp) (ix n) j)))).heap = H.setIfInBounds b (arrV (cx.G.2.2.1 κ) (hL h b) (fun j => .int (va_cpy (hI h a) (hI h b) (ix sp) (ix dp) (ix n) j))) := by rw [← hT]; rfl
  have oq : ∀ q : Nat, q ≠ b → (H.setIfInBounds b (arrV (cx.G.2.2.1 κ) (hL h b) (fun j => .int (va_cpy (hI h a) (hI h b) (ix sp) (ix dp) (ix n) j))))[q]? = H[q]? := fun q hq => by simp [Array.getElem?_setIfInBounds, Ne.symm hq]
  have e9 : (H.setIfInBounds b (arrV (cx.G.2.2.1 κ) (hL h b) (fun j => .int (va_cpy (hI h a) (hI h b) (ix sp) (ix dp) (ix n) j))))[b]? = some (arrV (cx.G.2.2.1 κ) (hL h b) (fun j => .int (va_cpy (hI h a) (hI h b) (ix sp) (ix dp) (ix n) j))) := by simp [Array.getElem?_setIfInBounds, hlt]
  have z9 : (H.setIfInBounds b (arrV (cx.G.2.2.1 κ) (hL h b) (fun j => .int (va_cpy (hI h a) (hI h b) (ix sp) (ix dp) (ix n) j)))).size = H.size := by simp
  have rq := hRp.setA (h' := cpI h a b (ix sp) (ix dp) (ix n)) cb e9 z9 oq rfl rfl rfl (hRp.1.setA (h' := cpI h a b (ix sp) (ix dp) (ix n)) hκ.2 zz z120 e9 z9 oq rfl rfl rfl (fun i => by
    have := congrFun (hfv (cpI h a b (ix sp) (ix dp) (ix n)) b) i
    rw [this]
    exact congrArg Value.int (if_pos rfl)) (fun c j hcb => ⟨if_neg hcb, rfl, rfl⟩))
  obtain ⟨t, a1, b1⟩ := W_tight (kk _ _ ls rq (fun q hq => by
      rcases List.mem_append.mp hq with h | h
      · exact hl q h
      · obtain ⟨z, -, hz9⟩ := List.mem_map.mp h
        rw [← hz9]
        exact hz z120) hlv) _ hheap X'
  exact ⟨t, step t a1, b1⟩
/-- references of lists -/
theorem x_copyR (hC : Cx cx own cc nL fr lo rt h0) {κ idx a b : Nat} {sp dp n : Int32} (e : h' = cpR h a b (ix sp) (ix dp) (ix n)) (hκ : hK h a = κ ∧ hK h b = κ) (z : κ = 108) (g : 0 ≤ sp.toInt ∧ 0 ≤ dp.toInt ∧ 0 ≤ n.toInt ∧ ix sp + ix n ≤ hL h a ∧ ix dp + ix n ≤ hL h b) (hfit : ∀ i, i < ix n → ∀ y, hR h a (ix sp + i) = some y → okE (hK h y))
    (w1 : Cond.methodLink own idx arraycopyName ∈ lw_all) (w2 : Cond.native arraycopyName ∈ lw_all) (w3 : Cond.static arraycopyName ∈ lw_all) (w4 : Cond.initialized "java/lang/System" ∈ lw_all) (hf : 1 ≤ fr) (hl9 : (st.map fun v => v.category).sum + (nativeFrameWords "java/lang/System" "arraycopy" 5 + 11) ≤ lo) (d : decode cc pc = .ok (.invokestatic idx, 3)) (kk : X cx nL Q h' (pc + 3) lv st) : X cx nL Q h pc lv (.int n :: .int dp :: .ref b :: .int sp :: .ref a :: st) := by
  subst e
  obtain ⟨g1, g2, g3, g4, g5⟩ := g
  have g4' : sp.toNatClampNeg + n.toNatClampNeg ≤ hL h a := g4
  have g5' : dp.toNatClampNeg + n.toNatClampNeg ≤ hL h b := g5
  have zz : zAr κ = true := by subst z; rfl
  have z120 : κ ≠ 120 := by subst z; decide
  have hfv : ∀ (h : AH) (c : Nat), (fun i => fv h c (aty κ) i) = fun i => rv (hR h c i) := by subst z; intros; rfl
  intro H locs ls hRp hl hlv T hT X
  obtain ⟨-, ca⟩ := hRp.1.2.2.2.2.1 a κ hκ.1 zz
  obtain ⟨hz, cb⟩ := hRp.1.2.2.2.2.1 b κ hκ.2 zz
  rw [hfv] at ca cb
  obtain ⟨-, k0, hk0, cm0, hkk0⟩ := (hC.ka zz).1 (hL h a) (fun j => rv (hR h a j))
  obtain ⟨-, k1, hk1, cm1, hkk1⟩ := (hC.ka zz).1 (hL h b) (fun j => rv (hR h b j))
  obtain ⟨vm', X', step⟩ := X.arraycopy hC.hx hC.hown (hC.hts _ w1) (hC.hts _ w2) (hC.hts _ w3) (hC.hts _ w4) (src := a) (dst := b) (cs := arrV (cx.G.2.2.1 κ) (hL h a) (fun j => rv (hR h a j))) (cd := arrV (cx.G.2.2.1 κ) (hL h b) (fun j => rv (hR h b j))) (srcPos := sp) (destPos := dp) (n := n) (by rw [hT]; exact ca) (by rw [hT]; exact cb)
    (fun _ h => by cases h) (fun _ h => by cases h) (fun h => by cases h) (fun h => by cases h) hk0 hk1 hkk0 hkk1 (by subst z; rfl) (n_lt0 g1) (n_lt0 g2) (n_lt0 g3)
    (by rw [cl_toInt sp g1, cl_toInt n g3, arrV_size]; omega)
    (by rw [cl_toInt dp g2, cl_toInt n g3, arrV_size]; omega)
    (fun vm₁ hal i hi => by
      have hi' : i < n.toNatClampNeg := hi
      have e : (arrV (cx.G.2.2.1 κ) (hL h a) (fun j => rv (hR h a j))).slots.getD (sp.toNatClampNeg + i) .null = rv (hR h a (sp.toNatClampNeg + i)) := by
        rw [Array.getD_eq_getD_getElem?, arrV_read _ _ (by omega)]
        rfl
      rw [e]
      cases hy : hR h a (sp.toNatClampNeg + i) with
      | none => exact ⟨by subst z; rfl, trivial⟩
      | some y =>
        have ok := hfit i hi y hy
        obtain ⟨cellV, kV, c1, c2, c3, c4⟩ := x_cls hC hRp (κ := hK h y) rfl (okE_z ok)
        have ra := (hC.ka zz).2
        rw [show aty κ = .object "java/lang/Object" by subst z; rfl] at ra
        obtain ⟨kA, comp, r1, r2, r3, -⟩ := ra
        cases hk1.symm.trans r1
        rw [show aty κ = .object "java/lang/Object" by subst z; rfl] at hkk1
        cases hkk1.symm.trans r2
        obtain ⟨kE, hkE, -⟩ := Vm.findClass_spec r3
        obtain ⟨kC', hkC', -⟩ := hal.2.2 _ _ c4
        obtain ⟨kE', hkE', -⟩ := hal.2.2 _ _ hkE
        obtain ⟨x0, t1, f1, f2, f3⟩ := Cond.castable_spec (va_Nw.use (A := cx.a) rfl (hC.cast (okE_c ok)))
        cases c3.symm.trans f1
        cases r3.symm.trans f2
        refine ⟨by subst z; rfl, cellV, (show T.heap[y]? = some cellV by rw [hT]; exact c1), (fun q h => by rw [c2] at h; cases h), ⟨kC', hkC'⟩, ?_, ?_⟩
        · exact ⟨kE', hkE'⟩
        · show vm₁.assignable _ _ = true
          rw [hal.assignable]
          exact f3)
    (g := F0 cx.m pc ls (.int n :: .int dp :: .ref b :: .int sp :: .ref a :: st)) rfl (hlv.1.trans hC.hml.symm) (rest := st) rfl (by rw [hC.hb]; exact d) (by rw [hC.rf]; exact hf) (by rw [hC.rl]; show 2 * 0 + _ + _ ≤ _; omega)
  have e1 : copied (arrV (cx.G.2.2.1 κ) (hL h a) (fun j => rv (hR h a j))) (arrV (cx.G.2.2.1 κ) (hL h b) (fun j => rv (hR h b j))) sp dp n = arrV (cx.G.2.2.1 κ) (hL h b) (fun j => rv (va_cpy (hR h a) (hR h b) (ix sp) (ix dp) (ix n) j)) := va_copied (fun z => rv z) _ _ (hR h a) (hR h b) g4
  rw [e1] at X' step
  have hlt : b < H.size := (Array.getElem?_eq_some_iff.mp cb).1
  have hheap : ((T.setVm vm').setCell b (arrV (cx.G.2.2.1 κ) (hL h b) (fun j => rv (va_cpy (hR h a) (hR h b) (ix sp) (ix dp) (ix n) j)))).heap = H.setIfInBounds b (arrV (cx.G.2.2.1 κ) (hL h b) (fun j => rv (va_cpy (hR h a) (hR h b) (ix sp) (ix dp) (ix n) j))) := by rw [← hT]; rfl
  have oq : ∀ q : Nat, q ≠ b → (H.setIfInBounds b (arrV (cx.G.2.2.1 κ) (hL h b) (fun j => rv (va_cpy (hR h a) (hR h b) (ix sp) (ix dp) (ix n) j))))[q]? = H[q]? := fun q hq => by simp [Array.getElem?_setIfInBounds, Ne.symm hq]
  have e9 : (H.setIfInBounds b (arrV (cx.G.2.2.1 κ) (hL h b) (fun j => rv (va_cpy (hR h a) (hR h b) (ix sp) (ix dp) (ix n) j))))[b]? = some (arrV (cx.G.2.2.1 κ) (hL h b) (fun j => rv (va_cpy (hR h a) (hR h b) (ix sp) (ix dp) (ix n) j))) := by simp [Array.getElem?_setIfInBounds, hlt]
  have z9 : (H.setIfInBounds b (arrV (cx.G.2.2.1 κ) (hL h b) (fun j => rv (va_cpy (hR h a) (hR h b) (ix sp) (ix dp) (ix n) j)))).size = H.size := by simp
  have rq := hRp.setA (h' := cpR h a b (ix sp) (ix dp) (ix n)) cb e9 z9 oq rfl rfl rfl (hRp.1.setA (h' := cpR h a b (ix sp) (ix dp) (ix n)) hκ.2 zz z120 e9 z9 oq rfl rfl rfl (fun i => by
    have := congrFun (hfv (cpR h a b (ix sp) (ix dp) (ix n)) b) i
    rw [this]
    exact congrArg rv (if_pos rfl)) (fun c j hcb => ⟨rfl, rfl, if_neg hcb⟩))
  obtain ⟨t, a1, b1⟩ := W_tight (kk _ _ ls rq (fun q hq => by
      rcases List.mem_append.mp hq with h | h
      · exact hl q h
      · obtain ⟨z, -, hz9⟩ := List.mem_map.mp h
        rw [← hz9]
        exact hz z120) hlv) _ hheap X'
  exact ⟨t, step t a1, b1⟩
end XCp
def okOb (h : AH) (o : Option Nat) : Bool := match o with
  | none => true
  | some y => decide (okE (hK h y))
theorem okOb_e {h : AH} {a sp n : Nat} (g : ∀ i, i < n → okOb h (hR h a (sp + i)) = true) : ∀ i, i < n → ∀ y, hR h a (sp + i) = some y → okE (hK h y) := fun i hi y hy => by
  have := g i hi
  rw [hy] at this
  exact of_decide_eq_true this
