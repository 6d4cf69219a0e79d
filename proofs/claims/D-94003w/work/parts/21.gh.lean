/-! PURE GH: learners, their parts -/
set_option maxRecDepth 100000
def LrP (z a : Nat) : Prop := z + 420 ≤ a ∧ a ≤ z + 438
def MP (m a : Nat) : Prop := a = m ∨ a = m + 16
theorem GTC.frL {g g' : AH} {z x : Nat} {n : Int} {A B : Nat → Nat → Int} (G : GTC g z x n A B) (hx : ¬ (z + 269 ≤ x ∧ x ≤ z + 495)) (T : tf (LrP z) g g') : GTC g' z x n A B := by
  obtain ⟨cs, hz, kx, ix_, n8, tb⟩ := G
  refine ⟨cs.tf T, by rw [T.R]; exact hz, by rw [T.K]; exact kx, by rw [T.I (by unfold LrP; omega)]; exact ix_, n8, fun i j hi hj => ?_⟩
  rw [T.I (by unfold LrP; omega), T.I (by unfold LrP; omega)]
  exact tb i j hi hj
theorem GTT.frL {g g' : AH} {m : Nat} {τ : Nat → Int} {A B : Nat → Nat → Int} (G : GTT g m τ A B) (T : tf (MP m) g g') : GTT g' m τ A B := by
  obtain ⟨tn, n8, tb⟩ := G
  refine ⟨tn.tf T (by unfold MP; omega), n8, fun i j hi hj => ?_⟩
  rw [T.I (by unfold MP; omega)]
  exact tb i j hi hj
theorem grt_run {g gT : AH} {z x m : Nat} {τ : Nat → Int} {A B : Nat → Nat → Int} (GC : GTC g z x (τ 3) A B) (GT : GTT gT m τ A B) (hn1 : 1 ≤ τ 3) {row w i : Nat} {V : Nat → Int32} (k1 : hK g row = 100) (k2 : hL g row = 8) (hw : w ≤ 1) (hi : i < 8) (v1 : ∀ l, l < 8 → hI g row l = V l) (v2 : ∀ l, l < 8 → hI gT (m + 16) (64 * w + 8 * i + l) = V l) : ∃ b : Nat, (b : Int) < τ 3 ∧ F_X6_greatest g (z + 420) row = some (iI b) ∧ F_X8_greatest gT m (iI w) (iI i) = some (iI b) := by
  have hl8 := GT.2.1
  obtain ⟨cs, hz, kx, ix_, -, tb⟩ := GC
  have ts := GT.1.s
  have ti := GT.1.i
  have key : Ok2 (F_X6_greatest g (z + 420) row) (F_X8_greatest gT m (iI w) (iI i)) (fun a b => b = a ∧ ∃ c : Nat, (c : Int) < τ 3 ∧ a = iI c) := by
    unfold F_X6_greatest G_X6_greatest_4 F_X8_greatest G_X8_greatest_5
    refine lp_ok2 (fun s t k => ∃ b l : Nat, s = (z + 420, row, iI b, iI l) ∧ t = (m, iI w, iI i, iI b, iI l) ∧ (b : Int) < τ 3 ∧ (l : Int) ≤ τ 3 ∧ k = (τ 3 - l).toNat) ?_ fuel (τ 3 - 1).toNat _ _ ⟨0, 1, rfl, rfl, by omega, by omega, by omega⟩ (lt_fuel (by omega))
    rintro f1 f2 s t k ⟨b, l, rfl, rfl, h1, h2, rfl⟩ ih
    unfold L_X6_greatest_4 L_X8_greatest_5
    by_cases ho : τ 3 ≤ (l : Int)
    · simp (disch := omega) only [i_lit, i_neg, i_add, i_sub, i_mul, i_ofNat, i_div, i_le, i_lt, i_eq, i_ix, i_inb, i_max, i_min, e_rem, j_lit, j_i, Int.reduceToNat, Int.reduceAdd, Int.reduceSub, Int.reduceMul, Int.reduceNeg, Int.reduceLT, Int.reduceLE, Int.reduceEq, gd_t, gd_T, ↓bd_m, ↓lh_t, ↓on_m, ↓ec_m, ↓reduceIte, if_true, if_false, true_and, and_true, false_and, and_false, true_or, or_true, false_or, or_false, Bool.false_eq_true, b2i_0, b2i_1, bl_0, bl_1, bl_b2, not_true_eq_false, not_false_eq_true, B_X6_greatest_4, B_X6_greatest_35, B_X8_greatest_5, B_X8_greatest_61, cs.k420, cs.rt, cs.k, hz, kx, ix_, ts.k, ts.r1, ts.k1, ts.l1, ts.r2, ts.k2, ts.l2, ts.r3, ts.k3, ts.l3, ts.r4, ts.k4, ts.l4, ts.r5, ts.k5, ts.l5, ts.r6, ts.k6, ts.l6, ts.r7, ts.k7, ts.l7, ts.r8, ts.k8, ts.l8, ts.r9, ts.k9, ts.l9, ts.r10, ts.k10, ts.l10, ts.r11, ts.k11, ts.l11, ts.r12, ts.k12, ts.l12, ts.r13, ts.k13, ts.l13, ts.r14, ts.k14, ts.l14, ts.r15, ts.k15, ts.l15, ts.r16, ts.k16, ts.l16, ts.r17, ts.k17, ts.l17, ts.r18, ts.k18, ts.l18, ts.r19, ts.k19, ts.l19, ts.r20, ts.k20, ts.l20, ti, ho]
      exact Ok2.some ⟨rfl, b, h1, rfl⟩
    · have y1 : (64 * (w : Int) + 8 * (i : Int) + (l : Int)).toNat = 64 * w + 8 * i + l := by omega
      have y2 : (64 * (w : Int) + 8 * (i : Int) + (b : Int)).toNat = 64 * w + 8 * i + b := by omega
      have a1 := v1 l (by omega)
      have a2 := v1 b (by omega)
      have a3 := v2 l (by omega)
      have a4 := v2 b (by omega)
      have nx := fun b' hb' => ih (z + 420, row, iI (b' : Nat), iI ((l + 1 : Nat) : Int)) (m, iI w, iI i, iI (b' : Nat), iI ((l + 1 : Nat) : Int)) (τ 3 - ((l + 1 : Nat) : Int)).toNat (by omega) ⟨b', l + 1, rfl, rfl, hb', by omega, rfl⟩
      rw [show (((l + 1 : Nat)) : Int) = (l : Int) + 1 by omega] at nx
      by_cases q : V l ≤ V b
      · simp (disch := omega) only [i_lit, i_neg, i_add, i_sub, i_mul, i_ofNat, i_div, i_le, i_lt, i_eq, i_ix, i_inb, i_max, i_min, e_rem, j_lit, j_i, Int.reduceToNat, Int.reduceAdd, Int.reduceSub, Int.reduceMul, Int.reduceNeg, Int.reduceLT, Int.reduceLE, Int.reduceEq, gd_t, gd_T, ↓bd_m, ↓lh_t, ↓on_m, ↓ec_m, ↓reduceIte, if_true, if_false, true_and, and_true, false_and, and_false, true_or, or_true, false_or, or_false, Bool.false_eq_true, b2i_0, b2i_1, bl_0, bl_1, bl_b2, not_true_eq_false, not_false_eq_true, B_X6_greatest_4, B_X6_greatest_29, B_X8_greatest_5, B_X8_greatest_55, cs.k420, cs.rt, cs.k, hz, kx, ix_, k1, k2, a1, a2, a3, a4, y1, y2, ts.k, ts.r1, ts.k1, ts.l1, ts.r2, ts.k2, ts.l2, ts.r3, ts.k3, ts.l3, ts.r4, ts.k4, ts.l4, ts.r5, ts.k5, ts.l5, ts.r6, ts.k6, ts.l6, ts.r7, ts.k7, ts.l7, ts.r8, ts.k8, ts.l8, ts.r9, ts.k9, ts.l9, ts.r10, ts.k10, ts.l10, ts.r11, ts.k11, ts.l11, ts.r12, ts.k12, ts.l12, ts.r13, ts.k13, ts.l13, ts.r14, ts.k14, ts.l14, ts.r15, ts.k15, ts.l15, ts.r16, ts.k16, ts.l16, ts.r17, ts.k17, ts.l17, ts.r18, ts.k18, ts.l18, ts.r19, ts.k19, ts.l19, ts.r20, ts.k20, ts.l20, ti, ho, q, Int.toNat_natCast]
        exact nx b h1
      · simp (disch := omega) only [i_lit, i_neg, i_add, i_sub, i_mul, i_ofNat, i_div, i_le, i_lt, i_eq, i_ix, i_inb, i_max, i_min, e_rem, j_lit, j_i, Int.reduceToNat, Int.reduceAdd, Int.reduceSub, Int.reduceMul, Int.reduceNeg, Int.reduceLT, Int.reduceLE, Int.reduceEq, gd_t, gd_T, ↓bd_m, ↓lh_t, ↓on_m, ↓ec_m, ↓reduceIte, if_true, if_false, true_and, and_true, false_and, and_false, true_or, or_true, false_or, or_false, Bool.false_eq_true, b2i_0, b2i_1, bl_0, bl_1, bl_b2, not_true_eq_false, not_false_eq_true, B_X6_greatest_4, B_X6_greatest_29, B_X8_greatest_5, B_X8_greatest_55, cs.k420, cs.rt, cs.k, hz, kx, ix_, k1, k2, a1, a2, a3, a4, y1, y2, ts.k, ts.r1, ts.k1, ts.l1, ts.r2, ts.k2, ts.l2, ts.r3, ts.k3, ts.l3, ts.r4, ts.k4, ts.l4, ts.r5, ts.k5, ts.l5, ts.r6, ts.k6, ts.l6, ts.r7, ts.k7, ts.l7, ts.r8, ts.k8, ts.l8, ts.r9, ts.k9, ts.l9, ts.r10, ts.k10, ts.l10, ts.r11, ts.k11, ts.l11, ts.r12, ts.k12, ts.l12, ts.r13, ts.k13, ts.l13, ts.r14, ts.k14, ts.l14, ts.r15, ts.k15, ts.l15, ts.r16, ts.k16, ts.l16, ts.r17, ts.k17, ts.l17, ts.r18, ts.k18, ts.l18, ts.r19, ts.k19, ts.l19, ts.r20, ts.k20, ts.l20, ti, ho, q, Int.toNat_natCast]
        exact nx l (by omega)
  obtain ⟨a, b, h1, h2, rfl, c, h3, rfl⟩ := key
  exact ⟨c, h3, h1, h2⟩
def nextX (v : Int32) : Int32 := iI 1103515245 * v + iI 12345
theorem ush_rng (v : Int32) : ∃ d : Int, iushr v (iI 16) = iI d ∧ 0 ≤ d ∧ d < 65536 := by
  refine ⟨(iushr v (iI 16)).toInt, i_of _, ?_⟩
  have h1 : (iushr v (iI 16)) = ((v.toUInt32 >>> (16 : UInt32)).toInt32) := by
    unfold iushr
    rw [show ((iI 16).toUInt32 &&& Int32.toUInt32 31) = (16 : UInt32) by decide]
  rw [h1]
  have h2 : (v.toUInt32 >>> (16 : UInt32)).toNat < 65536 := by
    rw [UInt32.toNat_shiftRight]
    have := v.toUInt32.toNat_lt
    have e : (16 : UInt32).toNat % 32 = 16 := by decide
    rw [e, Nat.shiftRight_eq_div_pow]
    omega
  generalize (v.toUInt32 >>> (16 : UInt32)) = u at h2
  have h3 : (u.toInt32).toInt = (u.toNat : Int) := by
    show u.toBitVec.toInt = (u.toBitVec.toNat : Int)
    have h4 : u.toBitVec.toNat < 65536 := h2
    exact BitVec.toInt_eq_toNat_of_lt (by omega)
  rw [h3]
  omega
theorem drawC {g : AH} {z : Nat} (k : hK g (z + 420) = 6) : F_X6_draw g (z + 420) = some (iushr (nextX (hI g (z + 420) 2)) (iI 16), wI g (z + 420) 2 (nextX (hI g (z + 420) 2))) := by
  have e : hI (wI g (z + 420) 2 (nextX (hI g (z + 420) 2))) (z + 420) 2 = nextX (hI g (z + 420) 2) := by rw [hI_wI, if_pos ⟨rfl, rfl⟩]
  unfold F_X6_draw
  unfold nextX at e ⊢
  simp (disch := omega) only [i_lit, i_neg, i_add, i_sub, i_mul, i_ofNat, i_div, i_le, i_lt, i_eq, i_ix, i_inb, i_max, i_min, e_rem, j_lit, j_i, Int.reduceToNat, Int.reduceAdd, Int.reduceSub, Int.reduceMul, Int.reduceNeg, Int.reduceLT, Int.reduceLE, Int.reduceEq, gd_t, gd_T, ↓bd_m, ↓lh_t, ↓on_m, ↓ec_m, ↓reduceIte, if_true, if_false, true_and, and_true, false_and, and_false, true_or, or_true, false_or, or_false, Bool.false_eq_true, b2i_0, b2i_1, bl_0, bl_1, bl_b2, not_true_eq_false, not_false_eq_true, B_X6_draw_15, k, hK_wI, e]
theorem drawT {g : AH} {m : Nat} (k : hK g m = 8) : F_X8_draw g m = some (iushr (nextX (hI g m 33)) (iI 16), wI g m 33 (nextX (hI g m 33))) := by
  have e : hI (wI g m 33 (nextX (hI g m 33))) m 33 = nextX (hI g m 33) := by rw [hI_wI, if_pos ⟨rfl, rfl⟩]
  unfold F_X8_draw
  unfold nextX at e ⊢
  simp (disch := omega) only [i_lit, i_neg, i_add, i_sub, i_mul, i_ofNat, i_div, i_le, i_lt, i_eq, i_ix, i_inb, i_max, i_min, e_rem, j_lit, j_i, Int.reduceToNat, Int.reduceAdd, Int.reduceSub, Int.reduceMul, Int.reduceNeg, Int.reduceLT, Int.reduceLE, Int.reduceEq, gd_t, gd_T, ↓bd_m, ↓lh_t, ↓on_m, ↓ec_m, ↓reduceIte, if_true, if_false, true_and, and_true, false_and, and_false, true_or, or_true, false_or, or_false, Bool.false_eq_true, b2i_0, b2i_1, bl_0, bl_1, bl_b2, not_true_eq_false, not_false_eq_true, B_X8_draw_16, k, hK_wI, e]
/-- both learners' cells are alike -/
def LB (g0 gT0 g gT : AH) (z m : Nat) : Prop := tf (LrP z) g0 g ∧ tf (MP m) gT0 gT ∧ (∀ k, k ≠ 33 → k ≠ 34 → k ≠ 35 → hI gT m k = hI gT0 m k) ∧ hJ gT = hJ gT0 ∧ (∀ i j : Nat, i < 8 → j < 8 → hI g (z + 422 + i) j = hI gT (m + 16) (8 * i + j) ∧ hI g (z + 431 + i) j = hI gT (m + 16) (64 + 8 * i + j)) ∧ hI g (z + 420) 2 = hI gT m 33
/-- where both stand -/
def LA (g gT : AH) (z m a b : Nat) : Prop := hI g (z + 420) 3 = iI a ∧ hI gT m 34 = iI a ∧ hI g (z + 420) 4 = iI b ∧ hI gT m 35 = iI b
theorem LB.x {g0 gT0 g gT : AH} {z m : Nat} (L : LB g0 gT0 g gT z m) (v : Int32) : LB g0 gT0 (wI g (z + 420) 2 v) (wI gT m 33 v) z m := by
  obtain ⟨T1, T2, f1, f2, f3, f4⟩ := L
  refine ⟨T1.trans (tf_wI (by unfold LrP; omega)), T2.trans (tf_wI (Or.inl rfl)), fun k h1 h2 h3 => ?_, f2, fun i j hi hj => ?_, ?_⟩
  · rw [hI_wI, if_neg (by omega)]
    exact f1 k h1 h2 h3
  · rw [hI_wI, if_neg (by omega), hI_wI, if_neg (by omega), hI_wI, if_neg (by omega), hI_wI, if_neg (by omega)]
    exact f3 i j hi hj
  · rw [hI_wI, if_pos ⟨rfl, rfl⟩, hI_wI, if_pos ⟨rfl, rfl⟩]
theorem LA.x {g gT : AH} {z m a b : Nat} (L : LA g gT z m a b) (v : Int32) : LA (wI g (z + 420) 2 v) (wI gT m 33 v) z m a b := by
  obtain ⟨h1, h2, h3, h4⟩ := L
  refine ⟨?_, ?_, ?_, ?_⟩
  · rw [hI_wI, if_neg (by omega)]; exact h1
  · rw [hI_wI, if_neg (by omega)]; exact h2
  · rw [hI_wI, if_neg (by omega)]; exact h3
  · rw [hI_wI, if_neg (by omega)]; exact h4
/-- a row of one of both tables -/
def rwC (z w i : Nat) : Nat := if w = 0 then z + 422 + i else z + 431 + i
theorem rw_at {g : AH} {z : Nat} (cs : CS g z) {w i : Nat} (hi : i < 8) : hK g (rwC z w i) = 100 ∧ hL g (rwC z w i) = 8 := by
  unfold rwC
  split
  · exact (cs.w421 i hi).2
  · exact (cs.w430 i hi).2
theorem LB.row {g0 gT0 g gT : AH} {z m : Nat} (L : LB g0 gT0 g gT z m) {w i : Nat} (hw : w ≤ 1) (hi : i < 8) : ∀ l, l < 8 → hI gT (m + 16) (64 * w + 8 * i + l) = hI g (rwC z w i) l := by
  intro l hl
  have := L.2.2.2.2.1 i l hi hl
  unfold rwC
  split
  · rename_i q
    rw [q, this.1, show 64 * 0 + 8 * i + l = 8 * i + l by omega]
  · rw [this.2, show 64 * w + 8 * i + l = 64 + 8 * i + l by omega]
theorem grt_at {g0 gT0 g gT : AH} {z x m : Nat} {τ : Nat → Int} {A B : Nat → Nat → Int} (GC : GTC g0 z x (τ 3) A B) (GT : GTT gT0 m τ A B) (hx : ¬ (z + 269 ≤ x ∧ x ≤ z + 495)) (hn1 : 1 ≤ τ 3) (L : LB g0 gT0 g gT z m) {w i : Nat} (hw : w ≤ 1) (hi : i < 8) : ∃ b : Nat, (b : Int) < τ 3 ∧ F_X6_greatest g (z + 420) (rwC z w i) = some (iI b) ∧ F_X8_greatest gT m (iI w) (iI i) = some (iI b) :=
  have c := GC.frL hx L.1
  grt_run c (GT.frL L.2.1) hn1 (rw_at c.1 hi).1 (rw_at c.1 hi).2 hw hi (fun _ _ => rfl) (L.row hw hi)
theorem takes_run {g0 gT0 g gT : AH} {z x m : Nat} {τ : Nat → Int} {A B : Nat → Nat → Int} (GC : GTC g0 z x (τ 3) A B) (GT : GTT gT0 m τ A B) (hx : ¬ (z + 269 ≤ x ∧ x ≤ z + 495)) (hn1 : 1 ≤ τ 3) (L : LB g0 gT0 g gT z m) {a b : Nat} (La : LA g gT z m a b) {w i : Nat} (hw : w ≤ 1) (hi : i < 8) {p : Int} (hp : 0 ≤ p ∧ p ≤ 50) : ∃ (v : Nat) (g' gT' : AH), (v : Int) < τ 3 ∧ F_X6_takes g (z + 420) (rwC z w i) (iI p) = some (iI v, g') ∧ F_X8_takes gT m (iI w) (iI i) (iI p) = some (iI v, gT') ∧ LB g0 gT0 g' gT' z m ∧ LA g' gT' z m a b := by
  have hl8 := GT.2.1
  have c := GC.frL hx L.1
  have t := GT.frL L.2.1
  have ex := L.2.2.2.2.2
  have d1 := drawC (g := g) (z := z) c.1.k420
  have d2 := drawT (g := gT) (m := m) t.1.s.k
  rw [← ex] at d2
  obtain ⟨d, e1, e2, e3⟩ := ush_rng (nextX (hI g (z + 420) 2))
  rw [e1] at d1 d2
  have L1 := L.x (nextX (hI g (z + 420) 2))
  have La1 := La.x (nextX (hI g (z + 420) 2))
  generalize wI g (z + 420) 2 (nextX (hI g (z + 420) 2)) = g1 at d1 L1 La1
  generalize wI gT m 33 (nextX (hI g (z + 420) 2)) = gT1 at d2 L1 La1
  have c1 := GC.frL hx L1.1
  have t1 := GT.frL L1.2.1
  unfold F_X6_takes F_X8_takes
  by_cases q : p ≤ d % 100
  · obtain ⟨v, v1, v2, v3⟩ := grt_at GC GT hx hn1 L1 hw hi
    refine ⟨v, g1, gT1, v1, ?_, ?_, L1, La1⟩
    · simp (disch := omega) only [i_lit, i_neg, i_add, i_sub, i_mul, i_ofNat, i_div, i_le, i_lt, i_eq, i_ix, i_inb, i_max, i_min, e_rem, j_lit, j_i, Int.reduceToNat, Int.reduceAdd, Int.reduceSub, Int.reduceMul, Int.reduceNeg, Int.reduceLT, Int.reduceLE, Int.reduceEq, gd_t, gd_T, ↓bd_m, ↓lh_t, ↓on_m, ↓ec_m, ↓reduceIte, if_true, if_false, true_and, and_true, false_and, and_false, true_or, or_true, false_or, or_false, Bool.false_eq_true, b2i_0, b2i_1, bl_0, bl_1, bl_b2, not_true_eq_false, not_false_eq_true, c.1.k420, d1, q, c1.1.k420, v2]
    · simp (disch := omega) only [i_lit, i_neg, i_add, i_sub, i_mul, i_ofNat, i_div, i_le, i_lt, i_eq, i_ix, i_inb, i_max, i_min, e_rem, j_lit, j_i, Int.reduceToNat, Int.reduceAdd, Int.reduceSub, Int.reduceMul, Int.reduceNeg, Int.reduceLT, Int.reduceLE, Int.reduceEq, gd_t, gd_T, ↓bd_m, ↓lh_t, ↓on_m, ↓ec_m, ↓reduceIte, if_true, if_false, true_and, and_true, false_and, and_false, true_or, or_true, false_or, or_false, Bool.false_eq_true, b2i_0, b2i_1, bl_0, bl_1, bl_b2, not_true_eq_false, not_false_eq_true, t.1.s.k, d2, q, t1.1.s.k, v3, B_X8_takes_31]
  · have f1 := drawC (g := g1) (z := z) c1.1.k420
    have f2 := drawT (g := gT1) (m := m) t1.1.s.k
    rw [← L1.2.2.2.2.2] at f2
    obtain ⟨d', e1', e2', e3'⟩ := ush_rng (nextX (hI g1 (z + 420) 2))
    rw [e1'] at f1 f2
    have L2 := L1.x (nextX (hI g1 (z + 420) 2))
    have La2 := La1.x (nextX (hI g1 (z + 420) 2))
    generalize wI g1 (z + 420) 2 (nextX (hI g1 (z + 420) 2)) = g2 at f1 L2 La2
    generalize wI gT1 m 33 (nextX (hI g1 (z + 420) 2)) = gT2 at f2 L2 La2
    have c2 := GC.frL hx L2.1
    have t2 := GT.frL L2.2.1
    have ts2 := t2.1.s
    have ti2 := t2.1.i
    have nz : (τ 3 = 0) = False := eq_false (by omega)
    have hm := Int.emod_nonneg d' (show τ 3 ≠ 0 by omega)
    have hm2 := Int.emod_lt_of_pos d' (show 0 < τ 3 by omega)
    refine ⟨(d' % τ 3).toNat, g2, gT2, by omega, ?_, ?_, L2, La2⟩
    · rw [show (((d' % τ 3).toNat : Nat) : Int) = d' % τ 3 by omega]
      simp (disch := omega) only [i_lit, i_neg, i_add, i_sub, i_mul, i_ofNat, i_div, i_le, i_lt, i_eq, i_ix, i_inb, i_max, i_min, e_rem, j_lit, j_i, Int.reduceToNat, Int.reduceAdd, Int.reduceSub, Int.reduceMul, Int.reduceNeg, Int.reduceLT, Int.reduceLE, Int.reduceEq, gd_t, gd_T, ↓bd_m, ↓lh_t, ↓on_m, ↓ec_m, ↓reduceIte, if_true, if_false, true_and, and_true, false_and, and_false, true_or, or_true, false_or, or_false, Bool.false_eq_true, b2i_0, b2i_1, bl_0, bl_1, bl_b2, not_true_eq_false, not_false_eq_true, c.1.k420, d1, q, c1.1.k420, f1, c2.1.k420, c2.1.rt, c2.1.k, c2.2.1, c2.2.2.1, c2.2.2.2.1, nz]
    · rw [show (((d' % τ 3).toNat : Nat) : Int) = d' % τ 3 by omega]
      simp (disch := omega) only [i_lit, i_neg, i_add, i_sub, i_mul, i_ofNat, i_div, i_le, i_lt, i_eq, i_ix, i_inb, i_max, i_min, e_rem, j_lit, j_i, Int.reduceToNat, Int.reduceAdd, Int.reduceSub, Int.reduceMul, Int.reduceNeg, Int.reduceLT, Int.reduceLE, Int.reduceEq, gd_t, gd_T, ↓bd_m, ↓lh_t, ↓on_m, ↓ec_m, ↓reduceIte, if_true, if_false, true_and, and_true, false_and, and_false, true_or, or_true, false_or, or_false, Bool.false_eq_true, b2i_0, b2i_1, bl_0, bl_1, bl_b2, not_true_eq_false, not_false_eq_true, t.1.s.k, d2, q, t1.1.s.k, f2, ts2.k, ts2.r1, ts2.k1, ts2.l1, ts2.r2, ts2.k2, ts2.l2, ts2.r3, ts2.k3, ts2.l3, ts2.r4, ts2.k4, ts2.l4, ts2.r5, ts2.k5, ts2.l5, ts2.r6, ts2.k6, ts2.l6, ts2.r7, ts2.k7, ts2.l7, ts2.r8, ts2.k8, ts2.l8, ts2.r9, ts2.k9, ts2.l9, ts2.r10, ts2.k10, ts2.l10, ts2.r11, ts2.k11, ts2.l11, ts2.r12, ts2.k12, ts2.l12, ts2.r13, ts2.k13, ts2.l13, ts2.r14, ts2.k14, ts2.l14, ts2.r15, ts2.k15, ts2.l15, ts2.r16, ts2.k16, ts2.l16, ts2.r17, ts2.k17, ts2.l17, ts2.r18, ts2.k18, ts2.l18, ts2.r19, ts2.k19, ts2.l19, ts2.r20, ts2.k20, ts2.l20, ti2, nz, B_X8_takes_31]
