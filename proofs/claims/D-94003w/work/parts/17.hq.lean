/-! the class object of Object[]; the law's own script -/
def zMi (Γ : zG) (mi : Nat) : Prop := va_Mi "[Ljava/lang/Object;" mi (zS Γ)
def zScr (Γ : zG) (b L : Nat) (xs : Nat → Int32) : Prop := va_X b L xs (zS Γ) (zS Γ).heap ∧ b < z0 Γ
section XMI
variable {cx : zX} {own : String} {cc : ByteArray} {nL fr lo : Nat} {rt : Option FieldType} {h0 : AH} {Q : State → Prop} {h : AH} {pc : Nat} {lv : List (Nat × Value)} {st : List Value}
theorem zMi_ex (hC : Cx cx own cc nL fr lo rt h0) : ∃ mi, zMi cx.G mi := va_Mi.of (flat_of_before _ hC.g0.2.2.2.1 (Cond.isRef (.mirror "[Ljava/lang/Object;")) (by decide +kernel))
theorem x_ldcM (hC : Cx cx own cc nL fr lo rt h0) {idx mi : Nat} (hmi : zMi cx.G mi) (w : Cond.classLink own idx "[Ljava/lang/Object;" ∈ lw_all) (d : decode cc pc = .ok (.ldc idx, 2)) (kk : X cx nL Q h (pc + 2) lv (.ref mi :: st)) : X cx nL Q h pc lv st := fun H locs ls a b c => va_ldcM hC.hx hC.hb hC.hown (hC.hts _ w) (va_Mi.moved hC.warm.alike hmi) d (kk H locs ls a b c)
theorem x_getC (hC : Cx cx own cc nL fr lo rt h0) {idx a mi : Nat} (hκ : hK h a = 108) (hmi : zMi cx.G mi) (w1 : Cond.methodLink own idx ⟨"java/lang/Object", "getClass", "()Ljava/lang/Class;"⟩ ∈ lw_all) (w2 : Cond.declares ⟨"java/lang/Object", "getClass", "()Ljava/lang/Class;"⟩ ∈ lw_tbl) (w3 : Cond.selects "[Ljava/lang/Object;" ⟨"java/lang/Object", "getClass", "()Ljava/lang/Class;"⟩ ⟨"java/lang/Object", "getClass", "()Ljava/lang/Class;"⟩ ∈ lw_all) (w4 : Cond.instanceMethod ⟨"java/lang/Object", "getClass", "()Ljava/lang/Class;"⟩ ∈ lw_all) (w5 : Cond.native ⟨"java/lang/Object", "getClass", "()Ljava/lang/Class;"⟩ ∈ lw_all)
    (hf : 1 ≤ fr) (hl9 : (st.map fun v => v.category).sum + 14 ≤ lo) (d : decode cc pc = .ok (.invokevirtual idx, 3)) (kk : X cx nL Q h (pc + 3) lv (.ref mi :: st)) : X cx nL Q h pc lv (.ref a :: st) := by
  intro H locs ls r b c
  have e1 : zNm 108 = "[Ljava/lang/Object;" := by decide +kernel
  exact va_getC (C := "[Ljava/lang/Object;") hC.hx hC.hb (hC.hml.trans c.1.symm) hC.hown (hC.hts _ w1) (va_Dc.use (va_Dc.moved hC.warm.alike (va_Dc.of (hC.g0.1 _ w2)))) (hC.hts _ w3) (hC.hts _ w4) (hC.hts _ w5) (va_Mi.moved hC.warm.alike hmi) (by
    obtain ⟨cell, k, c1, c2, c3, -⟩ := x_cls hC r hκ (Or.inr rfl)
    rw [e1] at c3
    exact ⟨cell, c1, by rw [c2]; rfl, c3⟩) (by rw [hC.rf]; exact hf) (by rw [hC.rl]; exact hl9) d (kk H locs ls r b c)
theorem x_acmpM (hC : Cx cx own cc nL fr lo rt h0) {x : Nat} {off : Int} {tgt : Nat} (d : decode cc pc = .ok (.if_acmp .ne off, 3)) (ht : (pc : Int) + off = (tgt : Int)) (kf : X cx nL Q h (pc + 3) lv st) : X cx nL Q h pc lv (.ref x :: .ref x :: st) := fun H locs ls a b c => lv_acmp_ne (rx := some x) (ry := some x) hC.hx hC.hb d ht (fun q => absurd rfl q) (fun q => kf H locs ls a b c)
theorem zScr.at {H : Heap} (hC : Cx cx own cc nL fr lo rt h0) {b L : Nat} {xs : Nat → Int32} (hS : zScr cx.G b L xs) (r : Rq cx h H) : va_X b L xs cx.s H := va_X.moved hC.warm.alike (va_X.kept hS.1 (r.1.2.2.1 b hS.2))
theorem x_sld (hC : Cx cx own cc nL fr lo rt h0) {b L : Nat} {xs : Nat → Int32} {i : Int32} (hS : zScr cx.G b L xs) (hi : inb i L) (d : decode cc pc = .ok (.iaload, 1)) (kk : X cx nL Q h (pc + 1) lv (.int (xs (ix i)) :: st)) : X cx nL Q h pc lv (.int i :: .ref b :: st) := by
  intro H locs ls r hl c
  obtain ⟨scr, h1, h2, h3, h4, h5⟩ := hS.at hC r
  exact W.iald (v := .int (xs (ix i))) hC.hx hC.hb h1 h2 h3 (by rw [h4]; exact inb_vp hi) (h5 _ (inb_lt hi)) rfl rfl d (kk H locs ls r hl c)
theorem x_slenQ (hC : Cx cx own cc nL fr lo rt h0) {b L : Nat} {xs : Nat → Int32} (hS : zScr cx.G b L xs) (d : decode cc pc = .ok (.arraylength, 1)) (kk : X cx nL Q h (pc + 1) lv (.int (Int32.ofNat L) :: st)) : X cx nL Q h pc lv (.ref b :: st) := by
  intro H locs ls r hl c
  obtain ⟨scr, h1, h2, h3, h4, h5⟩ := hS.at hC r
  exact W.alen (n := Int32.ofNat L) hC.hx hC.hb h1 h2 (by rw [h4] <;> rfl) rfl rfl d (kk H locs ls r hl c)
end XMI
