/-! PURE GD: reply, even, joint -/
set_option maxRecDepth 100000
theorem reply_run {g gT : AH} {z x m : Nat} {τ : Nat → Int} {A B : Nat → Nat → Int} (GC : GTC g z x (τ 3) A B) (GT : GTT gT m τ A B) (bA : bdd (τ 3) A) {j : Nat} (hj : (j : Int) < τ 3) : Ok2 (F_X1_replyOf g z (iI j)) (G_X8_reply_45 gT m (iI j) (iI 0) (iI 1)) (fun a b => b = (a, gT) ∧ ∃ w : Int, a = iI w ∧ 0 ≤ w ∧ w < 8) := by
  have ts := GT.1.s
  have ti := GT.1.i
  have hl8 := GT.2.1
  obtain ⟨cs, hz, kx, ix_, -, tb⟩ := GC
  unfold F_X1_replyOf G_X1_replyOf_4 G_X8_reply_45
  refine lp_ok2 (fun s t k => ∃ b i : Nat, s = (z, iI j, iI b, iI i) ∧ t = (gT, m, iI j, iI b, iI i) ∧ (b : Int) < τ 3 ∧ (i : Int) ≤ τ 3 ∧ k = (τ 3 - i).toNat) ?_ fuel (τ 3 - 1).toNat _ _ ⟨0, 1, rfl, rfl, by omega, by omega, by omega⟩ (lt_fuel (by omega))
  rintro f1 f2 s t k ⟨b, i, rfl, rfl, h1, h2, rfl⟩ ih
  unfold L_X1_replyOf_4 L_X8_reply_45
  by_cases ho : τ 3 ≤ (i : Int)
  · simp (disch := omega) only [i_lit, i_neg, i_add, i_sub, i_mul, i_ofNat, i_div, i_le, i_lt, i_eq, i_ix, i_inb, i_max, i_min, e_rem, j_lit, j_i, Int.reduceToNat, Int.reduceAdd, Int.reduceSub, Int.reduceMul, Int.reduceNeg, Int.reduceLT, Int.reduceLE, Int.reduceEq, gd_t, gd_T, ↓bd_m, ↓lh_t, ↓on_m, ↓ec_m, ↓reduceIte, if_true, if_false, true_and, and_true, false_and, and_false, true_or, or_true, false_or, or_false, Bool.false_eq_true, b2i_0, b2i_1, bl_0, bl_1, bl_b2, not_true_eq_false, not_false_eq_true, B_X1_replyOf_4, B_X1_replyOf_42, B_X8_reply_45, B_X8_reply_85, cs.k, hz, kx, ix_, ts.k, ts.r1, ts.k1, ts.l1, ts.r2, ts.k2, ts.l2, ts.r3, ts.k3, ts.l3, ts.r4, ts.k4, ts.l4, ts.r5, ts.k5, ts.l5, ts.r6, ts.k6, ts.l6, ts.r7, ts.k7, ts.l7, ts.r8, ts.k8, ts.l8, ts.r9, ts.k9, ts.l9, ts.r10, ts.k10, ts.l10, ts.r11, ts.k11, ts.l11, ts.r12, ts.k12, ts.l12, ts.r13, ts.k13, ts.l13, ts.r14, ts.k14, ts.l14, ts.r15, ts.k15, ts.l15, ts.r16, ts.k16, ts.l16, ts.r17, ts.k17, ts.l17, ts.r18, ts.k18, ts.l18, ts.r19, ts.k19, ts.l19, ts.r20, ts.k20, ts.l20, ti, ho]
    exact Ok2.some ⟨rfl, b, rfl, by omega, by omega⟩
  · have hi : (i : Int) < τ 3 := by omega
    have w1 := cs.w276 i (by omega)
    have w2 := cs.w276 b (by omega)
    have v1 := (tb i j hi hj).1
    have v2 := (tb b j h1 hj).1
    have ⟨b1, b2⟩ := bA i j hi hj
    have ⟨b3, b4⟩ := bA b j h1 hj
    have nx := fun b' hb' => ih (z, iI j, iI (b' : Nat), iI ((i + 1 : Nat) : Int)) (gT, m, iI j, iI (b' : Nat), iI ((i + 1 : Nat) : Int)) (τ 3 - ((i + 1 : Nat) : Int)).toNat (by omega) ⟨b', i + 1, rfl, rfl, hb', by omega, rfl⟩
    rw [show (((i + 1 : Nat)) : Int) = (i : Int) + 1 by omega] at nx
    by_cases q : A i j ≤ A b j
    · simp (disch := omega) only [i_lit, i_neg, i_add, i_sub, i_mul, i_ofNat, i_div, i_le, i_lt, i_eq, i_ix, i_inb, i_max, i_min, e_rem, j_lit, j_i, Int.reduceToNat, Int.reduceAdd, Int.reduceSub, Int.reduceMul, Int.reduceNeg, Int.reduceLT, Int.reduceLE, Int.reduceEq, gd_t, gd_T, ↓bd_m, ↓lh_t, ↓on_m, ↓ec_m, ↓reduceIte, if_true, if_false, true_and, and_true, false_and, and_false, true_or, or_true, false_or, or_false, Bool.false_eq_true, b2i_0, b2i_1, bl_0, bl_1, bl_b2, not_true_eq_false, not_false_eq_true, B_X1_replyOf_4, B_X1_replyOf_36, B_X8_reply_45, B_X8_reply_79, cs.k, hz, kx, ix_, cs.r276, cs.k276, cs.l276, w1.1, w1.2.1, w1.2.2, w2.1, w2.2.1, w2.2.2, v1, v2, ts.k, ts.r1, ts.k1, ts.l1, ts.r2, ts.k2, ts.l2, ts.r3, ts.k3, ts.l3, ts.r4, ts.k4, ts.l4, ts.r5, ts.k5, ts.l5, ts.r6, ts.k6, ts.l6, ts.r7, ts.k7, ts.l7, ts.r8, ts.k8, ts.l8, ts.r9, ts.k9, ts.l9, ts.r10, ts.k10, ts.l10, ts.r11, ts.k11, ts.l11, ts.r12, ts.k12, ts.l12, ts.r13, ts.k13, ts.l13, ts.r14, ts.k14, ts.l14, ts.r15, ts.k15, ts.l15, ts.r16, ts.k16, ts.l16, ts.r17, ts.k17, ts.l17, ts.r18, ts.k18, ts.l18, ts.r19, ts.k19, ts.l19, ts.r20, ts.k20, ts.l20, ti, ho, gain0 GT hi hj, gain0 GT h1 hj, q, Int.toNat_natCast]
      exact nx b h1
    · simp (disch := omega) only [i_lit, i_neg, i_add, i_sub, i_mul, i_ofNat, i_div, i_le, i_lt, i_eq, i_ix, i_inb, i_max, i_min, e_rem, j_lit, j_i, Int.reduceToNat, Int.reduceAdd, Int.reduceSub, Int.reduceMul, Int.reduceNeg, Int.reduceLT, Int.reduceLE, Int.reduceEq, gd_t, gd_T, ↓bd_m, ↓lh_t, ↓on_m, ↓ec_m, ↓reduceIte, if_true, if_false, true_and, and_true, false_and, and_false, true_or, or_true, false_or, or_false, Bool.false_eq_true, b2i_0, b2i_1, bl_0, bl_1, bl_b2, not_true_eq_false, not_false_eq_true, B_X1_replyOf_4, B_X1_replyOf_36, B_X8_reply_45, B_X8_reply_79, cs.k, hz, kx, ix_, cs.r276, cs.k276, cs.l276, w1.1, w1.2.1, w1.2.2, w2.1, w2.2.1, w2.2.2, v1, v2, ts.k, ts.r1, ts.k1, ts.l1, ts.r2, ts.k2, ts.l2, ts.r3, ts.k3, ts.l3, ts.r4, ts.k4, ts.l4, ts.r5, ts.k5, ts.l5, ts.r6, ts.k6, ts.l6, ts.r7, ts.k7, ts.l7, ts.r8, ts.k8, ts.l8, ts.r9, ts.k9, ts.l9, ts.r10, ts.k10, ts.l10, ts.r11, ts.k11, ts.l11, ts.r12, ts.k12, ts.l12, ts.r13, ts.k13, ts.l13, ts.r14, ts.k14, ts.l14, ts.r15, ts.k15, ts.l15, ts.r16, ts.k16, ts.l16, ts.r17, ts.k17, ts.l17, ts.r18, ts.k18, ts.l18, ts.r19, ts.k19, ts.l19, ts.r20, ts.k20, ts.l20, ti, ho, gain0 GT hi hj, gain0 GT h1 hj, q, Int.toNat_natCast]
      exact nx i hi
theorem rest_run {g gT : AH} {z x m : Nat} {τ : Nat → Int} {A B : Nat → Nat → Int} (GC : GTC g z x (τ 3) A B) (GT : GTT gT m τ A B) (bA : bdd (τ 3) A) (bB : bdd (τ 3) B) {i j : Nat} (hi : (i : Int) < τ 3) (hj : (j : Int) < τ 3) : Ok2 (F_X1_rests g z (iI i) (iI j)) (F_X8_isEven gT m (iI i) (iI j)) (fun a b => b = a ∧ (a = iI 0 ∨ a = iI 1)) := by
  have ts := GT.1.s
  have ti := GT.1.i
  have hl8 := GT.2.1
  obtain ⟨cs, hz, kx, ix_, -, tb⟩ := GC
  unfold F_X1_rests G_X1_rests_2 F_X8_isEven G_X8_isEven_2
  refine lp_ok2 (fun s t n => ∃ k : Nat, s = (z, iI i, iI j, iI k) ∧ t = (m, iI i, iI j, iI k) ∧ (k : Int) ≤ τ 3 ∧ n = (τ 3 - k).toNat) ?_ fuel (τ 3).toNat _ _ ⟨0, rfl, rfl, by omega, by omega⟩ (lt_fuel (by omega))
  rintro f1 f2 s t n ⟨k, rfl, rfl, h2, rfl⟩ ih
  unfold L_X1_rests_2 L_X8_isEven_2
  by_cases ho : τ 3 ≤ (k : Int)
  · simp (disch := omega) only [i_lit, i_neg, i_add, i_sub, i_mul, i_ofNat, i_div, i_le, i_lt, i_eq, i_ix, i_inb, i_max, i_min, e_rem, j_lit, j_i, Int.reduceToNat, Int.reduceAdd, Int.reduceSub, Int.reduceMul, Int.reduceNeg, Int.reduceLT, Int.reduceLE, Int.reduceEq, gd_t, gd_T, ↓bd_m, ↓lh_t, ↓on_m, ↓ec_m, ↓reduceIte, if_true, if_false, true_and, and_true, false_and, and_false, true_or, or_true, false_or, or_false, Bool.false_eq_true, b2i_0, b2i_1, bl_0, bl_1, bl_b2, not_true_eq_false, not_false_eq_true, B_X1_rests_2, B_X1_rests_59, B_X8_isEven_2, B_X8_isEven_54, cs.k, hz, kx, ix_, ts.k, ts.r1, ts.k1, ts.l1, ts.r2, ts.k2, ts.l2, ts.r3, ts.k3, ts.l3, ts.r4, ts.k4, ts.l4, ts.r5, ts.k5, ts.l5, ts.r6, ts.k6, ts.l6, ts.r7, ts.k7, ts.l7, ts.r8, ts.k8, ts.l8, ts.r9, ts.k9, ts.l9, ts.r10, ts.k10, ts.l10, ts.r11, ts.k11, ts.l11, ts.r12, ts.k12, ts.l12, ts.r13, ts.k13, ts.l13, ts.r14, ts.k14, ts.l14, ts.r15, ts.k15, ts.l15, ts.r16, ts.k16, ts.l16, ts.r17, ts.k17, ts.l17, ts.r18, ts.k18, ts.l18, ts.r19, ts.k19, ts.l19, ts.r20, ts.k20, ts.l20, ti, ho]
    exact Ok2.some ⟨rfl, Or.inr rfl⟩
  · have hk : (k : Int) < τ 3 := by omega
    have w1 := cs.w276 i (by omega)
    have w2 := cs.w276 k (by omega)
    have w3 := cs.w285 i (by omega)
    have v1 := tb i j hi hj
    have v2 := tb k j hk hj
    have v3 := tb i k hi hk
    have ⟨b1, b2⟩ := bA i j hi hj
    have ⟨b3, b4⟩ := bA k j hk hj
    have ⟨b5, b6⟩ := bB i j hi hj
    have ⟨b7, b8⟩ := bB i k hi hk
    have nx := ih (z, iI i, iI j, iI ((k + 1 : Nat) : Int)) (m, iI i, iI j, iI ((k + 1 : Nat) : Int)) (τ 3 - ((k + 1 : Nat) : Int)).toNat (by omega) ⟨k + 1, rfl, rfl, by omega, rfl⟩
    rw [show (((k + 1 : Nat)) : Int) = (k : Int) + 1 by omega] at nx
    have n10 : iI 1 ≠ iI 0 := by decide
    by_cases q : A i j < A k j
    · simp (disch := omega) only [i_lit, i_neg, i_add, i_sub, i_mul, i_ofNat, i_div, i_le, i_lt, i_eq, i_ix, i_inb, i_max, i_min, e_rem, j_lit, j_i, Int.reduceToNat, Int.reduceAdd, Int.reduceSub, Int.reduceMul, Int.reduceNeg, Int.reduceLT, Int.reduceLE, Int.reduceEq, gd_t, gd_T, ↓bd_m, ↓lh_t, ↓on_m, ↓ec_m, ↓reduceIte, if_true, if_false, true_and, and_true, false_and, and_false, true_or, or_true, false_or, or_false, Bool.false_eq_true, b2i_0, b2i_1, bl_0, bl_1, bl_b2, not_true_eq_false, not_false_eq_true, B_X1_rests_2, B_X1_rests_51, B_X8_isEven_2, B_X8_isEven_46, cs.k, hz, kx, ix_, cs.r276, cs.k276, cs.l276, w1.1, w1.2.1, w1.2.2, w2.1, w2.2.1, w2.2.2, v1.1, v2.1, ts.k, ts.r1, ts.k1, ts.l1, ts.r2, ts.k2, ts.l2, ts.r3, ts.k3, ts.l3, ts.r4, ts.k4, ts.l4, ts.r5, ts.k5, ts.l5, ts.r6, ts.k6, ts.l6, ts.r7, ts.k7, ts.l7, ts.r8, ts.k8, ts.l8, ts.r9, ts.k9, ts.l9, ts.r10, ts.k10, ts.l10, ts.r11, ts.k11, ts.l11, ts.r12, ts.k12, ts.l12, ts.r13, ts.k13, ts.l13, ts.r14, ts.k14, ts.l14, ts.r15, ts.k15, ts.l15, ts.r16, ts.k16, ts.l16, ts.r17, ts.k17, ts.l17, ts.r18, ts.k18, ts.l18, ts.r19, ts.k19, ts.l19, ts.r20, ts.k20, ts.l20, ti, ho, gain0 GT hi hj, gain0 GT hk hj, q, Int.toNat_natCast]
      exact Ok2.some ⟨rfl, Or.inl rfl⟩
    · by_cases q2 : B i k ≤ B i j
      · simp (disch := omega) only [i_lit, i_neg, i_add, i_sub, i_mul, i_ofNat, i_div, i_le, i_lt, i_eq, i_ix, i_inb, i_max, i_min, e_rem, j_lit, j_i, Int.reduceToNat, Int.reduceAdd, Int.reduceSub, Int.reduceMul, Int.reduceNeg, Int.reduceLT, Int.reduceLE, Int.reduceEq, gd_t, gd_T, ↓bd_m, ↓lh_t, ↓on_m, ↓ec_m, ↓reduceIte, if_true, if_false, true_and, and_true, false_and, and_false, true_or, or_true, false_or, or_false, Bool.false_eq_true, b2i_0, b2i_1, bl_0, bl_1, bl_b2, not_true_eq_false, not_false_eq_true, B_X1_rests_2, B_X8_isEven_2, cs.k, hz, kx, ix_, cs.r276, cs.k276, cs.l276, cs.r285, cs.k285, cs.l285, w1.1, w1.2.1, w1.2.2, w2.1, w2.2.1, w2.2.2, w3.1, w3.2.1, w3.2.2, v1.1, v2.1, v1.2, v3.2, ts.k, ts.r1, ts.k1, ts.l1, ts.r2, ts.k2, ts.l2, ts.r3, ts.k3, ts.l3, ts.r4, ts.k4, ts.l4, ts.r5, ts.k5, ts.l5, ts.r6, ts.k6, ts.l6, ts.r7, ts.k7, ts.l7, ts.r8, ts.k8, ts.l8, ts.r9, ts.k9, ts.l9, ts.r10, ts.k10, ts.l10, ts.r11, ts.k11, ts.l11, ts.r12, ts.k12, ts.l12, ts.r13, ts.k13, ts.l13, ts.r14, ts.k14, ts.l14, ts.r15, ts.k15, ts.l15, ts.r16, ts.k16, ts.l16, ts.r17, ts.k17, ts.l17, ts.r18, ts.k18, ts.l18, ts.r19, ts.k19, ts.l19, ts.r20, ts.k20, ts.l20, ti, ho, gain0 GT hi hj, gain0 GT hk hj, gain1 GT hi hj n10, gain1 GT hi hk n10, q, q2, Int.toNat_natCast]
        exact nx
      · simp (disch := omega) only [i_lit, i_neg, i_add, i_sub, i_mul, i_ofNat, i_div, i_le, i_lt, i_eq, i_ix, i_inb, i_max, i_min, e_rem, j_lit, j_i, Int.reduceToNat, Int.reduceAdd, Int.reduceSub, Int.reduceMul, Int.reduceNeg, Int.reduceLT, Int.reduceLE, Int.reduceEq, gd_t, gd_T, ↓bd_m, ↓lh_t, ↓on_m, ↓ec_m, ↓reduceIte, if_true, if_false, true_and, and_true, false_and, and_false, true_or, or_true, false_or, or_false, Bool.false_eq_true, b2i_0, b2i_1, bl_0, bl_1, bl_b2, not_true_eq_false, not_false_eq_true, B_X1_rests_2, B_X1_rests_51, B_X8_isEven_2, B_X8_isEven_46, cs.k, hz, kx, ix_, cs.r276, cs.k276, cs.l276, cs.r285, cs.k285, cs.l285, w1.1, w1.2.1, w1.2.2, w2.1, w2.2.1, w2.2.2, w3.1, w3.2.1, w3.2.2, v1.1, v2.1, v1.2, v3.2, ts.k, ts.r1, ts.k1, ts.l1, ts.r2, ts.k2, ts.l2, ts.r3, ts.k3, ts.l3, ts.r4, ts.k4, ts.l4, ts.r5, ts.k5, ts.l5, ts.r6, ts.k6, ts.l6, ts.r7, ts.k7, ts.l7, ts.r8, ts.k8, ts.l8, ts.r9, ts.k9, ts.l9, ts.r10, ts.k10, ts.l10, ts.r11, ts.k11, ts.l11, ts.r12, ts.k12, ts.l12, ts.r13, ts.k13, ts.l13, ts.r14, ts.k14, ts.l14, ts.r15, ts.k15, ts.l15, ts.r16, ts.k16, ts.l16, ts.r17, ts.k17, ts.l17, ts.r18, ts.k18, ts.l18, ts.r19, ts.k19, ts.l19, ts.r20, ts.k20, ts.l20, ti, ho, gain0 GT hi hj, gain0 GT hk hj, gain1 GT hi hj n10, gain1 GT hi hk n10, q, q2, Int.toNat_natCast]
        exact Ok2.some ⟨rfl, Or.inl rfl⟩
/-- what evenAt answers -/
def evR (τ : Nat → Int) (k : Int) (a b : Int32) : Prop := b = a ∧ ∃ w : Int, a = iI w ∧ (-1 ≤ w ∧ w ≤ 100) ∧ (k ≠ -1 → w ≠ -1 → ∃ i j : Nat, (i : Int) < τ 3 ∧ (j : Int) < τ 3 ∧ w = 10 * (i : Int) + j)
theorem even_run {g gT : AH} {z x m : Nat} {τ : Nat → Int} {A B : Nat → Nat → Int} (GC : GTC g z x (τ 3) A B) (GT : GTT gT m τ A B) (bA : bdd (τ 3) A) (bB : bdd (τ 3) B) {k : Int} (hk : i31 k) : Ok2 (F_X1_evenAt g z (iI k)) (F_X8_evenAt gT m (iI k)) (evR τ k) := by
  have ts := GT.1.s
  have ti := GT.1.i
  have hl8 := GT.2.1
  have GC' := GC
  obtain ⟨cs, hz, kx, ix_, -, tb⟩ := GC
  unfold F_X1_evenAt G_X1_evenAt_4 F_X8_evenAt G_X8_evenAt_4
  refine lp_ok2 (fun s t n => ∃ c i : Nat, s = (z, iI k, iI c, iI i) ∧ t = (m, iI k, iI c, iI i) ∧ (i : Int) ≤ τ 3 ∧ c ≤ 8 * i ∧ n = (τ 3 - i).toNat) ?_ fuel (τ 3).toNat _ _ ⟨0, 0, rfl, rfl, by omega, by omega, by omega⟩ (lt_fuel (by omega))
  rintro f1 f2 s t n ⟨c, i, rfl, rfl, h2, h3, rfl⟩ ih
  unfold L_X1_evenAt_4 L_X8_evenAt_4
  by_cases ho : τ 3 ≤ (i : Int)
  · by_cases q : k = -1
    · simp (disch := omega) only [i_lit, i_neg, i_add, i_sub, i_mul, i_ofNat, i_div, i_le, i_lt, i_eq, i_ix, i_inb, i_max, i_min, e_rem, j_lit, j_i, Int.reduceToNat, Int.reduceAdd, Int.reduceSub, Int.reduceMul, Int.reduceNeg, Int.reduceLT, Int.reduceLE, Int.reduceEq, gd_t, gd_T, ↓bd_m, ↓lh_t, ↓on_m, ↓ec_m, ↓reduceIte, if_true, if_false, true_and, and_true, false_and, and_false, true_or, or_true, false_or, or_false, Bool.false_eq_true, b2i_0, b2i_1, bl_0, bl_1, bl_b2, not_true_eq_false, not_false_eq_true, B_X1_evenAt_4, B_X1_evenAt_71, B_X1_evenAt_81, B_X8_evenAt_4, B_X8_evenAt_69, B_X8_evenAt_79, cs.k, hz, kx, ix_, ts.k, ts.r1, ts.k1, ts.l1, ts.r2, ts.k2, ts.l2, ts.r3, ts.k3, ts.l3, ts.r4, ts.k4, ts.l4, ts.r5, ts.k5, ts.l5, ts.r6, ts.k6, ts.l6, ts.r7, ts.k7, ts.l7, ts.r8, ts.k8, ts.l8, ts.r9, ts.k9, ts.l9, ts.r10, ts.k10, ts.l10, ts.r11, ts.k11, ts.l11, ts.r12, ts.k12, ts.l12, ts.r13, ts.k13, ts.l13, ts.r14, ts.k14, ts.l14, ts.r15, ts.k15, ts.l15, ts.r16, ts.k16, ts.l16, ts.r17, ts.k17, ts.l17, ts.r18, ts.k18, ts.l18, ts.r19, ts.k19, ts.l19, ts.r20, ts.k20, ts.l20, ti, ho, q]
      exact Ok2.some ⟨rfl, c, rfl, by omega, fun w => (w (by first | rfl | exact q)).elim⟩
    · simp (disch := omega) only [i_lit, i_neg, i_add, i_sub, i_mul, i_ofNat, i_div, i_le, i_lt, i_eq, i_ix, i_inb, i_max, i_min, e_rem, j_lit, j_i, Int.reduceToNat, Int.reduceAdd, Int.reduceSub, Int.reduceMul, Int.reduceNeg, Int.reduceLT, Int.reduceLE, Int.reduceEq, gd_t, gd_T, ↓bd_m, ↓lh_t, ↓on_m, ↓ec_m, ↓reduceIte, if_true, if_false, true_and, and_true, false_and, and_false, true_or, or_true, false_or, or_false, Bool.false_eq_true, b2i_0, b2i_1, bl_0, bl_1, bl_b2, not_true_eq_false, not_false_eq_true, B_X1_evenAt_4, B_X1_evenAt_71, B_X1_evenAt_81, B_X8_evenAt_4, B_X8_evenAt_69, B_X8_evenAt_79, cs.k, hz, kx, ix_, ts.k, ts.r1, ts.k1, ts.l1, ts.r2, ts.k2, ts.l2, ts.r3, ts.k3, ts.l3, ts.r4, ts.k4, ts.l4, ts.r5, ts.k5, ts.l5, ts.r6, ts.k6, ts.l6, ts.r7, ts.k7, ts.l7, ts.r8, ts.k8, ts.l8, ts.r9, ts.k9, ts.l9, ts.r10, ts.k10, ts.l10, ts.r11, ts.k11, ts.l11, ts.r12, ts.k12, ts.l12, ts.r13, ts.k13, ts.l13, ts.r14, ts.k14, ts.l14, ts.r15, ts.k15, ts.l15, ts.r16, ts.k16, ts.l16, ts.r17, ts.k17, ts.l17, ts.r18, ts.k18, ts.l18, ts.r19, ts.k19, ts.l19, ts.r20, ts.k20, ts.l20, ti, ho, q]
      exact Ok2.some ⟨rfl, -1, rfl, by omega, fun _ w => absurd rfl w⟩
  · simp (disch := omega) only [i_lit, i_neg, i_add, i_sub, i_mul, i_ofNat, i_div, i_le, i_lt, i_eq, i_ix, i_inb, i_max, i_min, e_rem, j_lit, j_i, Int.reduceToNat, Int.reduceAdd, Int.reduceSub, Int.reduceMul, Int.reduceNeg, Int.reduceLT, Int.reduceLE, Int.reduceEq, gd_t, gd_T, ↓bd_m, ↓lh_t, ↓on_m, ↓ec_m, ↓reduceIte, if_true, if_false, true_and, and_true, false_and, and_false, true_or, or_true, false_or, or_false, Bool.false_eq_true, b2i_0, b2i_1, bl_0, bl_1, bl_b2, not_true_eq_false, not_false_eq_true, B_X1_evenAt_4, B_X8_evenAt_4, cs.k, hz, kx, ix_, ts.k, ts.r1, ts.k1, ts.l1, ts.r2, ts.k2, ts.l2, ts.r3, ts.k3, ts.l3, ts.r4, ts.k4, ts.l4, ts.r5, ts.k5, ts.l5, ts.r6, ts.k6, ts.l6, ts.r7, ts.k7, ts.l7, ts.r8, ts.k8, ts.l8, ts.r9, ts.k9, ts.l9, ts.r10, ts.k10, ts.l10, ts.r11, ts.k11, ts.l11, ts.r12, ts.k12, ts.l12, ts.r13, ts.k13, ts.l13, ts.r14, ts.k14, ts.l14, ts.r15, ts.k15, ts.l15, ts.r16, ts.k16, ts.l16, ts.r17, ts.k17, ts.l17, ts.r18, ts.k18, ts.l18, ts.r19, ts.k19, ts.l19, ts.r20, ts.k20, ts.l20, ti, ho]
    have ih' := fun c' (hc' : c' ≤ 8 * (i + 1)) => ih (z, iI k, iI (c' : Nat), iI ((i + 1 : Nat) : Int)) (m, iI k, iI (c' : Nat), iI ((i + 1 : Nat) : Int)) (τ 3 - ((i + 1 : Nat) : Int)).toNat (by omega) ⟨c', i + 1, rfl, rfl, by omega, hc', rfl⟩
    rw [show (((i + 1 : Nat)) : Int) = (i : Int) + 1 by omega] at ih'
    clear ih
    have hi : (i : Int) < τ 3 := by omega
    unfold G_X1_evenAt_18 G_X8_evenAt_17
    refine lp_ok2 (fun s t n => ∃ c j : Nat, s = (z, iI k, iI c, iI i, iI j) ∧ t = (m, iI k, iI c, iI i, iI j) ∧ (j : Int) ≤ τ 3 ∧ c ≤ 8 * i + j ∧ n = (τ 3 - j).toNat) ?_ fuel (τ 3).toNat _ _ ⟨c, 0, rfl, rfl, by omega, by omega, by omega⟩ (lt_fuel (by omega))
    clear h3 c
    rintro e1 e2 s t n ⟨c, j, rfl, rfl, h2, h3, rfl⟩ ih
    unfold L_X1_evenAt_18 L_X8_evenAt_17
    by_cases hj : τ 3 ≤ (j : Int)
    · simp (disch := omega) only [i_lit, i_neg, i_add, i_sub, i_mul, i_ofNat, i_div, i_le, i_lt, i_eq, i_ix, i_inb, i_max, i_min, e_rem, j_lit, j_i, Int.reduceToNat, Int.reduceAdd, Int.reduceSub, Int.reduceMul, Int.reduceNeg, Int.reduceLT, Int.reduceLE, Int.reduceEq, gd_t, gd_T, ↓bd_m, ↓lh_t, ↓on_m, ↓ec_m, ↓reduceIte, if_true, if_false, true_and, and_true, false_and, and_false, true_or, or_true, false_or, or_false, Bool.false_eq_true, b2i_0, b2i_1, bl_0, bl_1, bl_b2, not_true_eq_false, not_false_eq_true, B_X1_evenAt_18, B_X1_evenAt_65, B_X8_evenAt_17, B_X8_evenAt_63, cs.k, hz, kx, ix_, ts.k, ts.r1, ts.k1, ts.l1, ts.r2, ts.k2, ts.l2, ts.r3, ts.k3, ts.l3, ts.r4, ts.k4, ts.l4, ts.r5, ts.k5, ts.l5, ts.r6, ts.k6, ts.l6, ts.r7, ts.k7, ts.l7, ts.r8, ts.k8, ts.l8, ts.r9, ts.k9, ts.l9, ts.r10, ts.k10, ts.l10, ts.r11, ts.k11, ts.l11, ts.r12, ts.k12, ts.l12, ts.r13, ts.k13, ts.l13, ts.r14, ts.k14, ts.l14, ts.r15, ts.k15, ts.l15, ts.r16, ts.k16, ts.l16, ts.r17, ts.k17, ts.l17, ts.r18, ts.k18, ts.l18, ts.r19, ts.k19, ts.l19, ts.r20, ts.k20, ts.l20, ti, hj]
      exact ih' c (by omega)
    · have hj' : (j : Int) < τ 3 := by omega
      obtain ⟨v, v', r1, r2, rfl, r4⟩ := rest_run GC' GT bA bB hi hj'
      have nx := fun c' (hc' : c' ≤ 8 * i + (j + 1)) => ih (z, iI k, iI (c' : Nat), iI i, iI ((j + 1 : Nat) : Int)) (m, iI k, iI (c' : Nat), iI i, iI ((j + 1 : Nat) : Int)) (τ 3 - ((j + 1 : Nat) : Int)).toNat (by omega) ⟨c', j + 1, rfl, rfl, by omega, hc', rfl⟩
      rw [show (((j + 1 : Nat)) : Int) = (j : Int) + 1 by omega] at nx
      rcases r4 with rfl | rfl
      · simp (disch := omega) only [i_lit, i_neg, i_add, i_sub, i_mul, i_ofNat, i_div, i_le, i_lt, i_eq, i_ix, i_inb, i_max, i_min, e_rem, j_lit, j_i, Int.reduceToNat, Int.reduceAdd, Int.reduceSub, Int.reduceMul, Int.reduceNeg, Int.reduceLT, Int.reduceLE, Int.reduceEq, gd_t, gd_T, ↓bd_m, ↓lh_t, ↓on_m, ↓ec_m, ↓reduceIte, if_true, if_false, true_and, and_true, false_and, and_false, true_or, or_true, false_or, or_false, Bool.false_eq_true, b2i_0, b2i_1, bl_0, bl_1, bl_b2, not_true_eq_false, not_false_eq_true, B_X1_evenAt_18, B_X1_evenAt_59, B_X8_evenAt_17, B_X8_evenAt_57, cs.k, hz, kx, ix_, ts.k, ts.r1, ts.k1, ts.l1, ts.r2, ts.k2, ts.l2, ts.r3, ts.k3, ts.l3, ts.r4, ts.k4, ts.l4, ts.r5, ts.k5, ts.l5, ts.r6, ts.k6, ts.l6, ts.r7, ts.k7, ts.l7, ts.r8, ts.k8, ts.l8, ts.r9, ts.k9, ts.l9, ts.r10, ts.k10, ts.l10, ts.r11, ts.k11, ts.l11, ts.r12, ts.k12, ts.l12, ts.r13, ts.k13, ts.l13, ts.r14, ts.k14, ts.l14, ts.r15, ts.k15, ts.l15, ts.r16, ts.k16, ts.l16, ts.r17, ts.k17, ts.l17, ts.r18, ts.k18, ts.l18, ts.r19, ts.k19, ts.l19, ts.r20, ts.k20, ts.l20, ti, hj, r1, r2]
        exact nx c (by omega)
      · by_cases q : (c : Int) = k
        · simp (disch := omega) only [i_lit, i_neg, i_add, i_sub, i_mul, i_ofNat, i_div, i_le, i_lt, i_eq, i_ix, i_inb, i_max, i_min, e_rem, j_lit, j_i, Int.reduceToNat, Int.reduceAdd, Int.reduceSub, Int.reduceMul, Int.reduceNeg, Int.reduceLT, Int.reduceLE, Int.reduceEq, gd_t, gd_T, ↓bd_m, ↓lh_t, ↓on_m, ↓ec_m, ↓reduceIte, if_true, if_false, true_and, and_true, false_and, and_false, true_or, or_true, false_or, or_false, Bool.false_eq_true, b2i_0, b2i_1, bl_0, bl_1, bl_b2, not_true_eq_false, not_false_eq_true, B_X1_evenAt_18, B_X1_evenAt_48, B_X8_evenAt_17, B_X8_evenAt_46, cs.k, hz, kx, ix_, ts.k, ts.r1, ts.k1, ts.l1, ts.r2, ts.k2, ts.l2, ts.r3, ts.k3, ts.l3, ts.r4, ts.k4, ts.l4, ts.r5, ts.k5, ts.l5, ts.r6, ts.k6, ts.l6, ts.r7, ts.k7, ts.l7, ts.r8, ts.k8, ts.l8, ts.r9, ts.k9, ts.l9, ts.r10, ts.k10, ts.l10, ts.r11, ts.k11, ts.l11, ts.r12, ts.k12, ts.l12, ts.r13, ts.k13, ts.l13, ts.r14, ts.k14, ts.l14, ts.r15, ts.k15, ts.l15, ts.r16, ts.k16, ts.l16, ts.r17, ts.k17, ts.l17, ts.r18, ts.k18, ts.l18, ts.r19, ts.k19, ts.l19, ts.r20, ts.k20, ts.l20, ti, hj, r1, r2, q]
          exact Ok2.some ⟨rfl, _, rfl, by omega, fun _ _ => ⟨i, j, hi, hj', rfl⟩⟩
        · have nx := nx (c + 1) (by omega)
          rw [show (((c + 1 : Nat)) : Int) = (c : Int) + 1 by omega] at nx
          simp (disch := omega) only [i_lit, i_neg, i_add, i_sub, i_mul, i_ofNat, i_div, i_le, i_lt, i_eq, i_ix, i_inb, i_max, i_min, e_rem, j_lit, j_i, Int.reduceToNat, Int.reduceAdd, Int.reduceSub, Int.reduceMul, Int.reduceNeg, Int.reduceLT, Int.reduceLE, Int.reduceEq, gd_t, gd_T, ↓bd_m, ↓lh_t, ↓on_m, ↓ec_m, ↓reduceIte, if_true, if_false, true_and, and_true, false_and, and_false, true_or, or_true, false_or, or_false, Bool.false_eq_true, b2i_0, b2i_1, bl_0, bl_1, bl_b2, not_true_eq_false, not_false_eq_true, B_X1_evenAt_18, B_X1_evenAt_59, B_X8_evenAt_17, B_X8_evenAt_57, cs.k, hz, kx, ix_, ts.k, ts.r1, ts.k1, ts.l1, ts.r2, ts.k2, ts.l2, ts.r3, ts.k3, ts.l3, ts.r4, ts.k4, ts.l4, ts.r5, ts.k5, ts.l5, ts.r6, ts.k6, ts.l6, ts.r7, ts.k7, ts.l7, ts.r8, ts.k8, ts.l8, ts.r9, ts.k9, ts.l9, ts.r10, ts.k10, ts.l10, ts.r11, ts.k11, ts.l11, ts.r12, ts.k12, ts.l12, ts.r13, ts.k13, ts.l13, ts.r14, ts.k14, ts.l14, ts.r15, ts.k15, ts.l15, ts.r16, ts.k16, ts.l16, ts.r17, ts.k17, ts.l17, ts.r18, ts.k18, ts.l18, ts.r19, ts.k19, ts.l19, ts.r20, ts.k20, ts.l20, ti, hj, r1, r2, q]
          exact nx
theorem both_at {g : AH} {z x : Nat} {n : Int} {A B : Nat → Nat → Int} (GC : GTC g z x n A B) {i j : Nat} (hi : (i : Int) < n) (hj : (j : Int) < n) : F_X1_both g z (iI (10 * (i : Int) + (j : Int))) = some (iI (A i j + B i j)) := by
  obtain ⟨cs, hz, kx, ix_, n8, tb⟩ := GC
  have w1 := cs.w276 i (by omega)
  have w2 := cs.w285 i (by omega)
  have v1 := tb i j hi hj
  have y1 : (10 * (i : Int) + (j : Int)) / 10 = (i : Int) := by omega
  have y2 : (10 * (i : Int) + (j : Int)) - (i : Int) * 10 = (j : Int) := by omega
  unfold F_X1_both
  simp (disch := omega) only [i_lit, i_neg, i_add, i_sub, i_mul, i_ofNat, i_div, i_le, i_lt, i_eq, i_ix, i_inb, i_max, i_min, e_rem, j_lit, j_i, Int.reduceToNat, Int.reduceAdd, Int.reduceSub, Int.reduceMul, Int.reduceNeg, Int.reduceLT, Int.reduceLE, Int.reduceEq, gd_t, gd_T, ↓bd_m, ↓lh_t, ↓on_m, ↓ec_m, ↓reduceIte, if_true, if_false, true_and, and_true, false_and, and_false, true_or, or_true, false_or, or_false, Bool.false_eq_true, b2i_0, b2i_1, bl_0, bl_1, bl_b2, not_true_eq_false, not_false_eq_true, cs.k, cs.r276, cs.k276, cs.l276, cs.r285, cs.k285, cs.l285, w1.1, w1.2.1, w1.2.2, w2.1, w2.2.1, w2.2.2, v1.1, v1.2, y1, y2, Int.toNat_natCast]
theorem both_to {g : AH} {m : Nat} {τ : Nat → Int} {A B : Nat → Nat → Int} (G : GTT g m τ A B) {i j : Nat} (hi : (i : Int) < τ 3) (hj : (j : Int) < τ 3) : F_X8_together g m (iI i) (iI j) = some (iI (A i j + B i j)) := by
  have ts := G.1.s
  have n10 : iI 1 ≠ iI 0 := by decide
  unfold F_X8_together
  simp (disch := omega) only [i_lit, i_neg, i_add, i_sub, i_mul, i_ofNat, i_div, i_le, i_lt, i_eq, i_ix, i_inb, i_max, i_min, e_rem, j_lit, j_i, Int.reduceToNat, Int.reduceAdd, Int.reduceSub, Int.reduceMul, Int.reduceNeg, Int.reduceLT, Int.reduceLE, Int.reduceEq, gd_t, gd_T, ↓bd_m, ↓lh_t, ↓on_m, ↓ec_m, ↓reduceIte, if_true, if_false, true_and, and_true, false_and, and_false, true_or, or_true, false_or, or_false, Bool.false_eq_true, b2i_0, b2i_1, bl_0, bl_1, bl_b2, not_true_eq_false, not_false_eq_true, ts.k, gain0 G hi hj, gain1 G hi hj n10]
theorem joint_run {g gT : AH} {z x m : Nat} {τ : Nat → Int} {A B : Nat → Nat → Int} (GC : GTC g z x (τ 3) A B) (GT : GTT gT m τ A B) (bA : bdd (τ 3) A) (bB : bdd (τ 3) B) : Ok2 (G_X1_joint_17 g z (iI (-1)) (iI 0)) (G_X8_joint_30 gT m (iI (-1)) (iI 0)) (fun a b => ∃ w : Int, a = .inl (iI w, g) ∧ b = (iI w, gT) ∧ i31 w) := by
  have ts := GT.1.s
  have ti := GT.1.i
  have hl8 := GT.2.1
  have GC' := GC
  obtain ⟨cs, hz, kx, ix_, -, tb⟩ := GC
  unfold G_X1_joint_17 G_X8_joint_30
  refine lp_ok2 (fun s t n => ∃ (c : Int) (i : Nat), s = (g, z, iI c, iI i) ∧ t = (gT, m, iI c, iI i) ∧ (i : Int) ≤ τ 3 ∧ (c = -1 ∨ ∃ p q : Nat, (p : Int) < τ 3 ∧ (q : Int) < τ 3 ∧ c = 10 * (p : Int) + q) ∧ n = (τ 3 - i).toNat) ?_ fuel (τ 3).toNat _ _ ⟨-1, 0, rfl, rfl, by omega, Or.inl rfl, by omega⟩ (lt_fuel (by omega))
  rintro f1 f2 s t n ⟨c, i, rfl, rfl, h2, h3, rfl⟩ ih
  have c31 : i31 c := by rcases h3 with h | ⟨p, q, h, h', h''⟩ <;> omega
  unfold L_X1_joint_17 L_X8_joint_30
  by_cases ho : τ 3 ≤ (i : Int)
  · simp (disch := omega) only [i_lit, i_neg, i_add, i_sub, i_mul, i_ofNat, i_div, i_le, i_lt, i_eq, i_ix, i_inb, i_max, i_min, e_rem, j_lit, j_i, Int.reduceToNat, Int.reduceAdd, Int.reduceSub, Int.reduceMul, Int.reduceNeg, Int.reduceLT, Int.reduceLE, Int.reduceEq, gd_t, gd_T, ↓bd_m, ↓lh_t, ↓on_m, ↓ec_m, ↓reduceIte, if_true, if_false, true_and, and_true, false_and, and_false, true_or, or_true, false_or, or_false, Bool.false_eq_true, b2i_0, b2i_1, bl_0, bl_1, bl_b2, not_true_eq_false, not_false_eq_true, B_X1_joint_17, B_X1_joint_90, B_X8_joint_30, B_X8_joint_104, cs.k, hz, kx, ix_, ts.k, ts.r1, ts.k1, ts.l1, ts.r2, ts.k2, ts.l2, ts.r3, ts.k3, ts.l3, ts.r4, ts.k4, ts.l4, ts.r5, ts.k5, ts.l5, ts.r6, ts.k6, ts.l6, ts.r7, ts.k7, ts.l7, ts.r8, ts.k8, ts.l8, ts.r9, ts.k9, ts.l9, ts.r10, ts.k10, ts.l10, ts.r11, ts.k11, ts.l11, ts.r12, ts.k12, ts.l12, ts.r13, ts.k13, ts.l13, ts.r14, ts.k14, ts.l14, ts.r15, ts.k15, ts.l15, ts.r16, ts.k16, ts.l16, ts.r17, ts.k17, ts.l17, ts.r18, ts.k18, ts.l18, ts.r19, ts.k19, ts.l19, ts.r20, ts.k20, ts.l20, ti, ho]
    exact Ok2.some ⟨c, rfl, rfl, c31⟩
  · simp (disch := omega) only [i_lit, i_neg, i_add, i_sub, i_mul, i_ofNat, i_div, i_le, i_lt, i_eq, i_ix, i_inb, i_max, i_min, e_rem, j_lit, j_i, Int.reduceToNat, Int.reduceAdd, Int.reduceSub, Int.reduceMul, Int.reduceNeg, Int.reduceLT, Int.reduceLE, Int.reduceEq, gd_t, gd_T, ↓bd_m, ↓lh_t, ↓on_m, ↓ec_m, ↓reduceIte, if_true, if_false, true_and, and_true, false_and, and_false, true_or, or_true, false_or, or_false, Bool.false_eq_true, b2i_0, b2i_1, bl_0, bl_1, bl_b2, not_true_eq_false, not_false_eq_true, B_X1_joint_17, B_X8_joint_30, cs.k, hz, kx, ix_, ts.k, ts.r1, ts.k1, ts.l1, ts.r2, ts.k2, ts.l2, ts.r3, ts.k3, ts.l3, ts.r4, ts.k4, ts.l4, ts.r5, ts.k5, ts.l5, ts.r6, ts.k6, ts.l6, ts.r7, ts.k7, ts.l7, ts.r8, ts.k8, ts.l8, ts.r9, ts.k9, ts.l9, ts.r10, ts.k10, ts.l10, ts.r11, ts.k11, ts.l11, ts.r12, ts.k12, ts.l12, ts.r13, ts.k13, ts.l13, ts.r14, ts.k14, ts.l14, ts.r15, ts.k15, ts.l15, ts.r16, ts.k16, ts.l16, ts.r17, ts.k17, ts.l17, ts.r18, ts.k18, ts.l18, ts.r19, ts.k19, ts.l19, ts.r20, ts.k20, ts.l20, ti, ho]
    have ih' := fun c' (hc' : c' = -1 ∨ ∃ p q : Nat, (p : Int) < τ 3 ∧ (q : Int) < τ 3 ∧ c' = 10 * (p : Int) + q) => ih (g, z, iI c', iI ((i + 1 : Nat) : Int)) (gT, m, iI c', iI ((i + 1 : Nat) : Int)) (τ 3 - ((i + 1 : Nat) : Int)).toNat (by omega) ⟨c', i + 1, rfl, rfl, by omega, hc', rfl⟩
    rw [show (((i + 1 : Nat)) : Int) = (i : Int) + 1 by omega] at ih'
    clear ih
    have hi : (i : Int) < τ 3 := by omega
    unfold G_X1_joint_32 G_X8_joint_44
    refine lp_ok2 (fun s t n => ∃ (c : Int) (j : Nat), s = (g, z, iI c, iI i, iI j) ∧ t = (gT, m, iI c, iI i, iI j) ∧ (j : Int) ≤ τ 3 ∧ (c = -1 ∨ ∃ p q : Nat, (p : Int) < τ 3 ∧ (q : Int) < τ 3 ∧ c = 10 * (p : Int) + q) ∧ n = (τ 3 - j).toNat) ?_ fuel (τ 3).toNat _ _ ⟨c, 0, rfl, rfl, by omega, h3, by omega⟩ (lt_fuel (by omega))
    clear h3 c31 c
    rintro e1 e2 s t n ⟨c, j, rfl, rfl, h2, h3, rfl⟩ ih
    unfold L_X1_joint_32 L_X8_joint_44
    by_cases hj : τ 3 ≤ (j : Int)
    · simp (disch := omega) only [i_lit, i_neg, i_add, i_sub, i_mul, i_ofNat, i_div, i_le, i_lt, i_eq, i_ix, i_inb, i_max, i_min, e_rem, j_lit, j_i, Int.reduceToNat, Int.reduceAdd, Int.reduceSub, Int.reduceMul, Int.reduceNeg, Int.reduceLT, Int.reduceLE, Int.reduceEq, gd_t, gd_T, ↓bd_m, ↓lh_t, ↓on_m, ↓ec_m, ↓reduceIte, if_true, if_false, true_and, and_true, false_and, and_false, true_or, or_true, false_or, or_false, Bool.false_eq_true, b2i_0, b2i_1, bl_0, bl_1, bl_b2, not_true_eq_false, not_false_eq_true, B_X1_joint_32, B_X1_joint_84, B_X8_joint_44, B_X8_joint_98, cs.k, hz, kx, ix_, ts.k, ts.r1, ts.k1, ts.l1, ts.r2, ts.k2, ts.l2, ts.r3, ts.k3, ts.l3, ts.r4, ts.k4, ts.l4, ts.r5, ts.k5, ts.l5, ts.r6, ts.k6, ts.l6, ts.r7, ts.k7, ts.l7, ts.r8, ts.k8, ts.l8, ts.r9, ts.k9, ts.l9, ts.r10, ts.k10, ts.l10, ts.r11, ts.k11, ts.l11, ts.r12, ts.k12, ts.l12, ts.r13, ts.k13, ts.l13, ts.r14, ts.k14, ts.l14, ts.r15, ts.k15, ts.l15, ts.r16, ts.k16, ts.l16, ts.r17, ts.k17, ts.l17, ts.r18, ts.k18, ts.l18, ts.r19, ts.k19, ts.l19, ts.r20, ts.k20, ts.l20, ti, hj]
      exact ih' c h3
    · have hj' : (j : Int) < τ 3 := by omega
      have nx := fun c' hc' => ih (g, z, iI c', iI i, iI ((j + 1 : Nat) : Int)) (gT, m, iI c', iI i, iI ((j + 1 : Nat) : Int)) (τ 3 - ((j + 1 : Nat) : Int)).toNat (by omega) ⟨c', j + 1, rfl, rfl, by omega, hc', rfl⟩
      rw [show (((j + 1 : Nat)) : Int) = (j : Int) + 1 by omega] at nx
      rcases h3 with rfl | ⟨p, q, hp, hq, rfl⟩
      · simp (disch := omega) only [i_lit, i_neg, i_add, i_sub, i_mul, i_ofNat, i_div, i_le, i_lt, i_eq, i_ix, i_inb, i_max, i_min, e_rem, j_lit, j_i, Int.reduceToNat, Int.reduceAdd, Int.reduceSub, Int.reduceMul, Int.reduceNeg, Int.reduceLT, Int.reduceLE, Int.reduceEq, gd_t, gd_T, ↓bd_m, ↓lh_t, ↓on_m, ↓ec_m, ↓reduceIte, if_true, if_false, true_and, and_true, false_and, and_false, true_or, or_true, false_or, or_false, Bool.false_eq_true, b2i_0, b2i_1, bl_0, bl_1, bl_b2, not_true_eq_false, not_false_eq_true, B_X1_joint_32, B_X1_joint_69, B_X1_joint_78, B_X8_joint_44, B_X8_joint_83, B_X8_joint_92, cs.k, hz, kx, ix_, ts.k, ts.r1, ts.k1, ts.l1, ts.r2, ts.k2, ts.l2, ts.r3, ts.k3, ts.l3, ts.r4, ts.k4, ts.l4, ts.r5, ts.k5, ts.l5, ts.r6, ts.k6, ts.l6, ts.r7, ts.k7, ts.l7, ts.r8, ts.k8, ts.l8, ts.r9, ts.k9, ts.l9, ts.r10, ts.k10, ts.l10, ts.r11, ts.k11, ts.l11, ts.r12, ts.k12, ts.l12, ts.r13, ts.k13, ts.l13, ts.r14, ts.k14, ts.l14, ts.r15, ts.k15, ts.l15, ts.r16, ts.k16, ts.l16, ts.r17, ts.k17, ts.l17, ts.r18, ts.k18, ts.l18, ts.r19, ts.k19, ts.l19, ts.r20, ts.k20, ts.l20, ti, hj]
        exact nx _ (Or.inr ⟨i, j, hi, hj', rfl⟩)
      · have y1 : (10 * (p : Int) + (q : Int)) / 10 = (p : Int) := by omega
        have y2 : (10 * (p : Int) + (q : Int)) - (p : Int) * 10 = (q : Int) := by omega
        have nm : (10 * (p : Int) + (q : Int) = -1) = False := eq_false (by omega)
        have ⟨b1, b2⟩ := bA i j hi hj'
        have ⟨b3, b4⟩ := bB i j hi hj'
        have ⟨b5, b6⟩ := bA p q hp hq
        have ⟨b7, b8⟩ := bB p q hp hq
        by_cases w : A i j + B i j ≤ A p q + B p q
        · simp (disch := omega) only [i_lit, i_neg, i_add, i_sub, i_mul, i_ofNat, i_div, i_le, i_lt, i_eq, i_ix, i_inb, i_max, i_min, e_rem, j_lit, j_i, Int.reduceToNat, Int.reduceAdd, Int.reduceSub, Int.reduceMul, Int.reduceNeg, Int.reduceLT, Int.reduceLE, Int.reduceEq, gd_t, gd_T, ↓bd_m, ↓lh_t, ↓on_m, ↓ec_m, ↓reduceIte, if_true, if_false, true_and, and_true, false_and, and_false, true_or, or_true, false_or, or_false, Bool.false_eq_true, b2i_0, b2i_1, bl_0, bl_1, bl_b2, not_true_eq_false, not_false_eq_true, B_X1_joint_32, B_X1_joint_78, B_X8_joint_44, B_X8_joint_92, cs.k, hz, kx, ix_, ts.k, ts.r1, ts.k1, ts.l1, ts.r2, ts.k2, ts.l2, ts.r3, ts.k3, ts.l3, ts.r4, ts.k4, ts.l4, ts.r5, ts.k5, ts.l5, ts.r6, ts.k6, ts.l6, ts.r7, ts.k7, ts.l7, ts.r8, ts.k8, ts.l8, ts.r9, ts.k9, ts.l9, ts.r10, ts.k10, ts.l10, ts.r11, ts.k11, ts.l11, ts.r12, ts.k12, ts.l12, ts.r13, ts.k13, ts.l13, ts.r14, ts.k14, ts.l14, ts.r15, ts.k15, ts.l15, ts.r16, ts.k16, ts.l16, ts.r17, ts.k17, ts.l17, ts.r18, ts.k18, ts.l18, ts.r19, ts.k19, ts.l19, ts.r20, ts.k20, ts.l20, ti, hj, both_at GC' hi hj', both_at GC' hp hq, nm, y1, y2, both_to GT hi hj', both_to GT hp hq, w]
          exact nx _ (Or.inr ⟨p, q, hp, hq, rfl⟩)
        · simp (disch := omega) only [i_lit, i_neg, i_add, i_sub, i_mul, i_ofNat, i_div, i_le, i_lt, i_eq, i_ix, i_inb, i_max, i_min, e_rem, j_lit, j_i, Int.reduceToNat, Int.reduceAdd, Int.reduceSub, Int.reduceMul, Int.reduceNeg, Int.reduceLT, Int.reduceLE, Int.reduceEq, gd_t, gd_T, ↓bd_m, ↓lh_t, ↓on_m, ↓ec_m, ↓reduceIte, if_true, if_false, true_and, and_true, false_and, and_false, true_or, or_true, false_or, or_false, Bool.false_eq_true, b2i_0, b2i_1, bl_0, bl_1, bl_b2, not_true_eq_false, not_false_eq_true, B_X1_joint_32, B_X1_joint_69, B_X1_joint_78, B_X8_joint_44, B_X8_joint_83, B_X8_joint_92, cs.k, hz, kx, ix_, ts.k, ts.r1, ts.k1, ts.l1, ts.r2, ts.k2, ts.l2, ts.r3, ts.k3, ts.l3, ts.r4, ts.k4, ts.l4, ts.r5, ts.k5, ts.l5, ts.r6, ts.k6, ts.l6, ts.r7, ts.k7, ts.l7, ts.r8, ts.k8, ts.l8, ts.r9, ts.k9, ts.l9, ts.r10, ts.k10, ts.l10, ts.r11, ts.k11, ts.l11, ts.r12, ts.k12, ts.l12, ts.r13, ts.k13, ts.l13, ts.r14, ts.k14, ts.l14, ts.r15, ts.k15, ts.l15, ts.r16, ts.k16, ts.l16, ts.r17, ts.k17, ts.l17, ts.r18, ts.k18, ts.l18, ts.r19, ts.k19, ts.l19, ts.r20, ts.k20, ts.l20, ti, hj, both_at GC' hi hj', both_at GC' hp hq, nm, y1, y2, both_to GT hi hj', both_to GT hp hq, w]
          exact nx _ (Or.inr ⟨i, j, hi, hj', rfl⟩)
theorem op_reply {z m : Nat} (x1 x2 x3 : Int32) : ∀ hC hT, Rx hC hT z m → rm z hC → Ok2 (F_X0_reply hC z x1 x2 x3 (z + 495)) (F_X8_reply hT m x1 x2 x3) (fun a b => VI z m a b ∧ FC z hC a.2 ∧ FT m hT b.2 ∧ Rx a.2 b.2 z m) := by
  intro hC hT ⟨o, x, τ, υ, e, el, lw, r⟩ g
  have hn4 := r.c.rg.n
  have cs := r.cs
  have c := r.c
  have hz := r.hz
  have ts0 := r.tn.s
  have tn := r.tn.wm 5 (iI 0)
  have ti := tn.i
  have ts := tn.s
  have hgi := c.rg.i
  have gr : 1 ≤ hc hC ∧ 6 ≤ hs hC := by have := g.1; have := g.2.1; omega
  obtain ⟨ia, rfl, h1⟩ := i_ex x1
  obtain ⟨ib, rfl, h2⟩ := i_ex x2
  obtain ⟨i, rfl, h3⟩ := i_ex x3
  have l1 := isLevel_eq tn c.rg h3
  rcases two_cases r gr h1 h2 with ⟨a, b, rfl, rfl, ha, hb, hab, e1, e2⟩ | ⟨e1, e2⟩ | ⟨e1, e2⟩
  · have e2 := e2 hT r.tn
    by_cases q1 : 0 ≤ i ∧ i ≤ τ 3 - 1
    · rw [b2_t q1] at l1
      have m1 := mustBeLevel_t r q1
      obtain ⟨hC', hT', A, B, w1, w2, T1, T2, GC, GT, bA, bB, ko, lo⟩ := game_laid r g ha hb hab
      obtain ⟨i, rfl⟩ := Int.eq_ofNat_of_zero_le q1.1
      have hi : (i : Int) < τ 3 := by omega
      obtain ⟨u, u', f1, f2, rfl, w, rfl, f4⟩ := reply_run GC GT bA hi
      have cs' := GC.1
      simp (disch := omega) only [i_lit, i_neg, i_add, i_sub, i_mul, i_ofNat, i_div, i_le, i_lt, i_eq, i_ix, i_inb, i_max, i_min, e_rem, j_lit, j_i, Int.reduceToNat, Int.reduceAdd, Int.reduceSub, Int.reduceMul, Int.reduceNeg, Int.reduceLT, Int.reduceLE, Int.reduceEq, gd_t, gd_T, ↓bd_m, ↓lh_t, ↓on_m, ↓ec_m, ↓reduceIte, if_true, if_false, true_and, and_true, false_and, and_false, true_or, or_true, false_or, or_false, Bool.false_eq_true, b2i_0, b2i_1, bl_0, bl_1, bl_b2, not_true_eq_false, not_false_eq_true, F_X0_reply, F_X1_reply, F_X8_reply, B_X8_reply_10, cs.k, e1, m1, w1, cs'.k, f1, ko, lo, ts0.k, e2, hK_wI, hI5, l1, w2, f2]
      exact Ok2.some (r.finT g T1 GP_scr T2 TP_rng _ _ (j_i (by omega)).symm)
    · rw [b2_f q1] at l1
      have m1 := mustBeLevel_f r gr h3 q1
      simp (disch := omega) only [i_lit, i_neg, i_add, i_sub, i_mul, i_ofNat, i_div, i_le, i_lt, i_eq, i_ix, i_inb, i_max, i_min, e_rem, j_lit, j_i, Int.reduceToNat, Int.reduceAdd, Int.reduceSub, Int.reduceMul, Int.reduceNeg, Int.reduceLT, Int.reduceLE, Int.reduceEq, gd_t, gd_T, ↓bd_m, ↓lh_t, ↓on_m, ↓ec_m, ↓reduceIte, if_true, if_false, true_and, and_true, false_and, and_false, true_or, or_true, false_or, or_false, Bool.false_eq_true, b2i_0, b2i_1, bl_0, bl_1, bl_b2, not_true_eq_false, not_false_eq_true, F_X0_reply, F_X1_reply, B_X0_reply_23, F_X8_reply, B_X8_reply_10, cs.k, e1, m1, ts0.k, e2, hK_wI, hI5, l1, fails_eq ts.k, Nat.reduceEqDiff]
      exact Ok2.some (r.bad _ (by decide))
  · have e2 := e2 hT r.tn
    simp (disch := omega) only [i_lit, i_neg, i_add, i_sub, i_mul, i_ofNat, i_div, i_le, i_lt, i_eq, i_ix, i_inb, i_max, i_min, e_rem, j_lit, j_i, Int.reduceToNat, Int.reduceAdd, Int.reduceSub, Int.reduceMul, Int.reduceNeg, Int.reduceLT, Int.reduceLE, Int.reduceEq, gd_t, gd_T, ↓bd_m, ↓lh_t, ↓on_m, ↓ec_m, ↓reduceIte, if_true, if_false, true_and, and_true, false_and, and_false, true_or, or_true, false_or, or_false, Bool.false_eq_true, b2i_0, b2i_1, bl_0, bl_1, bl_b2, not_true_eq_false, not_false_eq_true, F_X0_reply, F_X1_reply, B_X0_reply_15, F_X8_reply, B_X8_reply_10, cs.k, e1, ts0.k, e2, hK_wI, hI5, Nat.reduceEqDiff]
    exact Ok2.some (r.bad1 _ (by decide))
  · have e2 := e2 hT r.tn
    simp (disch := omega) only [i_lit, i_neg, i_add, i_sub, i_mul, i_ofNat, i_div, i_le, i_lt, i_eq, i_ix, i_inb, i_max, i_min, e_rem, j_lit, j_i, Int.reduceToNat, Int.reduceAdd, Int.reduceSub, Int.reduceMul, Int.reduceNeg, Int.reduceLT, Int.reduceLE, Int.reduceEq, gd_t, gd_T, ↓bd_m, ↓lh_t, ↓on_m, ↓ec_m, ↓reduceIte, if_true, if_false, true_and, and_true, false_and, and_false, true_or, or_true, false_or, or_false, Bool.false_eq_true, b2i_0, b2i_1, bl_0, bl_1, bl_b2, not_true_eq_false, not_false_eq_true, F_X0_reply, F_X1_reply, B_X0_reply_19, F_X8_reply, B_X8_reply_10, cs.k, e1, ts0.k, e2, hK_wI, hI5, Nat.reduceEqDiff]
    exact Ok2.some (r.bad1 _ (by decide))
theorem op_even {z m : Nat} (x1 x2 x3 : Int32) : ∀ hC hT, Rx hC hT z m → rm z hC → Ok2 (F_X0_even hC z x1 x2 x3 (z + 495)) (F_X8_even hT m x1 x2 x3) (fun a b => VI z m a b ∧ FC z hC a.2 ∧ FT m hT b.2 ∧ Rx a.2 b.2 z m) := by
  intro hC hT ⟨o, x, τ, υ, e, el, lw, r⟩ g
  have hn4 := r.c.rg.n
  have cs := r.cs
  have c := r.c
  have hz := r.hz
  have ts0 := r.tn.s
  have tn := r.tn.wm 5 (iI 0)
  have ti := tn.i
  have ts := tn.s
  have hgi := c.rg.i
  have gr : 1 ≤ hc hC ∧ 6 ≤ hs hC := by have := g.1; have := g.2.1; omega
  obtain ⟨ia, rfl, h1⟩ := i_ex x1
  obtain ⟨ib, rfl, h2⟩ := i_ex x2
  obtain ⟨i, rfl, h3⟩ := i_ex x3
  rcases two_cases r gr h1 h2 with ⟨a, b, rfl, rfl, ha, hb, hab, e1, e2⟩ | ⟨e1, e2⟩ | ⟨e1, e2⟩
  · have e2 := e2 hT r.tn
    obtain ⟨hC', hT', A, B, w1, w2, T1, T2, GC, GT, bA, bB, ko, lo⟩ := game_laid r g ha hb hab
    obtain ⟨u, u', f1, f2, rfl, w, rfl, f4, -⟩ := even_run GC GT bA bB h3
    have cs' := GC.1
    have ts' := GT.1.s
    simp (disch := omega) only [i_lit, i_neg, i_add, i_sub, i_mul, i_ofNat, i_div, i_le, i_lt, i_eq, i_ix, i_inb, i_max, i_min, e_rem, j_lit, j_i, Int.reduceToNat, Int.reduceAdd, Int.reduceSub, Int.reduceMul, Int.reduceNeg, Int.reduceLT, Int.reduceLE, Int.reduceEq, gd_t, gd_T, ↓bd_m, ↓lh_t, ↓on_m, ↓ec_m, ↓reduceIte, if_true, if_false, true_and, and_true, false_and, and_false, true_or, or_true, false_or, or_false, Bool.false_eq_true, b2i_0, b2i_1, bl_0, bl_1, bl_b2, not_true_eq_false, not_false_eq_true, F_X0_even, F_X1_even, F_X8_even, B_X8_even_10, cs.k, e1, w1, cs'.k, f1, ko, lo, ts0.k, e2, hK_wI, hI5, w2, ts'.k, f2]
    exact Ok2.some (r.finT g T1 GP_scr T2 TP_rng _ _ (j_i (by omega)).symm)
  · have e2 := e2 hT r.tn
    simp (disch := omega) only [i_lit, i_neg, i_add, i_sub, i_mul, i_ofNat, i_div, i_le, i_lt, i_eq, i_ix, i_inb, i_max, i_min, e_rem, j_lit, j_i, Int.reduceToNat, Int.reduceAdd, Int.reduceSub, Int.reduceMul, Int.reduceNeg, Int.reduceLT, Int.reduceLE, Int.reduceEq, gd_t, gd_T, ↓bd_m, ↓lh_t, ↓on_m, ↓ec_m, ↓reduceIte, if_true, if_false, true_and, and_true, false_and, and_false, true_or, or_true, false_or, or_false, Bool.false_eq_true, b2i_0, b2i_1, bl_0, bl_1, bl_b2, not_true_eq_false, not_false_eq_true, F_X0_even, F_X1_even, B_X0_even_15, F_X8_even, B_X8_even_10, cs.k, e1, ts0.k, e2, hK_wI, hI5, Nat.reduceEqDiff]
    exact Ok2.some (r.bad1 _ (by decide))
  · have e2 := e2 hT r.tn
    simp (disch := omega) only [i_lit, i_neg, i_add, i_sub, i_mul, i_ofNat, i_div, i_le, i_lt, i_eq, i_ix, i_inb, i_max, i_min, e_rem, j_lit, j_i, Int.reduceToNat, Int.reduceAdd, Int.reduceSub, Int.reduceMul, Int.reduceNeg, Int.reduceLT, Int.reduceLE, Int.reduceEq, gd_t, gd_T, ↓bd_m, ↓lh_t, ↓on_m, ↓ec_m, ↓reduceIte, if_true, if_false, true_and, and_true, false_and, and_false, true_or, or_true, false_or, or_false, Bool.false_eq_true, b2i_0, b2i_1, bl_0, bl_1, bl_b2, not_true_eq_false, not_false_eq_true, F_X0_even, F_X1_even, B_X0_even_19, F_X8_even, B_X8_even_10, cs.k, e1, ts0.k, e2, hK_wI, hI5, Nat.reduceEqDiff]
    exact Ok2.some (r.bad1 _ (by decide))
theorem op_joint {z m : Nat} (x1 x2 : Int32) : ∀ hC hT, Rx hC hT z m → rm z hC → Ok2 (F_X0_joint hC z x1 x2 (z + 495)) (F_X8_joint hT m x1 x2) (fun a b => VI z m a b ∧ FC z hC a.2 ∧ FT m hT b.2 ∧ Rx a.2 b.2 z m) := by
  intro hC hT ⟨o, x, τ, υ, e, el, lw, r⟩ g
  have hn4 := r.c.rg.n
  have cs := r.cs
  have c := r.c
  have hz := r.hz
  have ts0 := r.tn.s
  have tn := r.tn.wm 5 (iI 0)
  have ti := tn.i
  have ts := tn.s
  have hgi := c.rg.i
  have gr : 1 ≤ hc hC ∧ 6 ≤ hs hC := by have := g.1; have := g.2.1; omega
  obtain ⟨ia, rfl, h1⟩ := i_ex x1
  obtain ⟨ib, rfl, h2⟩ := i_ex x2
  rcases two_cases r gr h1 h2 with ⟨a, b, rfl, rfl, ha, hb, hab, e1, e2⟩ | ⟨e1, e2⟩ | ⟨e1, e2⟩
  · have e2 := e2 hT r.tn
    obtain ⟨hC', hT', A, B, w1, w2, T1, T2, GC, GT, bA, bB, ko, lo⟩ := game_laid r g ha hb hab
    obtain ⟨u, u', f1, f2, w, rfl, rfl, f4⟩ := joint_run GC GT bA bB
    simp (disch := omega) only [i_lit, i_neg, i_add, i_sub, i_mul, i_ofNat, i_div, i_le, i_lt, i_eq, i_ix, i_inb, i_max, i_min, e_rem, j_lit, j_i, Int.reduceToNat, Int.reduceAdd, Int.reduceSub, Int.reduceMul, Int.reduceNeg, Int.reduceLT, Int.reduceLE, Int.reduceEq, gd_t, gd_T, ↓bd_m, ↓lh_t, ↓on_m, ↓ec_m, ↓reduceIte, if_true, if_false, true_and, and_true, false_and, and_false, true_or, or_true, false_or, or_false, Bool.false_eq_true, b2i_0, b2i_1, bl_0, bl_1, bl_b2, not_true_eq_false, not_false_eq_true, F_X0_joint, F_X1_joint, F_X8_joint, B_X8_joint_10, cs.k, e1, w1, f1, ko, lo, ts0.k, e2, hK_wI, hI5, w2, f2]
    exact Ok2.some (r.finT g T1 GP_scr T2 TP_rng _ _ (j_i (by omega)).symm)
  · have e2 := e2 hT r.tn
    simp (disch := omega) only [i_lit, i_neg, i_add, i_sub, i_mul, i_ofNat, i_div, i_le, i_lt, i_eq, i_ix, i_inb, i_max, i_min, e_rem, j_lit, j_i, Int.reduceToNat, Int.reduceAdd, Int.reduceSub, Int.reduceMul, Int.reduceNeg, Int.reduceLT, Int.reduceLE, Int.reduceEq, gd_t, gd_T, ↓bd_m, ↓lh_t, ↓on_m, ↓ec_m, ↓reduceIte, if_true, if_false, true_and, and_true, false_and, and_false, true_or, or_true, false_or, or_false, Bool.false_eq_true, b2i_0, b2i_1, bl_0, bl_1, bl_b2, not_true_eq_false, not_false_eq_true, F_X0_joint, F_X1_joint, B_X0_joint_13, F_X8_joint, B_X8_joint_10, cs.k, e1, ts0.k, e2, hK_wI, hI5, Nat.reduceEqDiff]
    exact Ok2.some (r.bad1 _ (by decide))
  · have e2 := e2 hT r.tn
    simp (disch := omega) only [i_lit, i_neg, i_add, i_sub, i_mul, i_ofNat, i_div, i_le, i_lt, i_eq, i_ix, i_inb, i_max, i_min, e_rem, j_lit, j_i, Int.reduceToNat, Int.reduceAdd, Int.reduceSub, Int.reduceMul, Int.reduceNeg, Int.reduceLT, Int.reduceLE, Int.reduceEq, gd_t, gd_T, ↓bd_m, ↓lh_t, ↓on_m, ↓ec_m, ↓reduceIte, if_true, if_false, true_and, and_true, false_and, and_false, true_or, or_true, false_or, or_false, Bool.false_eq_true, b2i_0, b2i_1, bl_0, bl_1, bl_b2, not_true_eq_false, not_false_eq_true, F_X0_joint, F_X1_joint, B_X0_joint_17, F_X8_joint, B_X8_joint_10, cs.k, e1, ts0.k, e2, hK_wI, hI5, Nat.reduceEqDiff]
    exact Ok2.some (r.bad1 _ (by decide))
