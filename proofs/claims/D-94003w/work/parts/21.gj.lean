/-! PURE GJ: learn, above, punish -/
set_option maxRecDepth 100000
theorem goes0 {g0 : AH} {z x : Nat} {n : Int} {A B : Nat → Nat → Int} (GC : GTC g0 z x n A B) (hx : ¬ (z + 269 ≤ x ∧ x ≤ z + 495)) {N seed : Int32} {β : Type} {Y : Option β} {R : Int32 × AH → β → Prop} (H : ∀ g', tf (LrP z) g0 g' → (∀ i j : Nat, i < 8 → j < 8 → hI g' (z + 422 + i) j = iI 0 ∧ hI g' (z + 431 + i) j = iI 0) → hI g' (z + 420) 2 = seed → hI g' (z + 420) 3 = iI (n - 1) → hI g' (z + 420) 4 = iI (n - 1) → Ok2 (G_X6_goes_89 g' (z + 420) N (iI 0)) Y R) : Ok2 (F_X6_goes g0 (z + 420) N seed) Y R := by
  have n8 := GC.2.2.2.2.1
  have PL : LrP z (z + 420) := by unfold LrP; omega
  unfold F_X6_goes G_X6_goes_2
  refine lp_end (E := fun X => Ok2 X Y R) (fun s k => ∃ (g : AH) (i : Nat), s = (g, z + 420, N, seed, iI i) ∧ i ≤ 8 ∧ k = 8 - i ∧ tf (LrP z) g0 g ∧ ∀ i' j : Nat, i' < i → j < 8 → hI g (z + 422 + i') j = iI 0 ∧ hI g (z + 431 + i') j = iI 0) ?_ fuel 8 _ ⟨g0, 0, rfl, by omega, by omega, tf.rfl, fun i' j hl => by omega⟩ (lt_fuel (by omega))
  rintro self s k ⟨g, i, rfl, h1, rfl, T1, f1⟩ ih
  unfold L_X6_goes_2
  by_cases ho : 8 ≤ (i : Int)
  · have k1 := (GC.frL hx T1).1.k420
    simp (disch := omega) only [i_lit, i_neg, i_add, i_sub, i_mul, i_ofNat, i_div, i_le, i_lt, i_eq, i_ix, i_inb, i_max, i_min, e_rem, j_lit, j_i, Int.reduceToNat, Int.reduceAdd, Int.reduceSub, Int.reduceMul, Int.reduceNeg, Int.reduceLT, Int.reduceLE, Int.reduceEq, gd_t, gd_T, ↓bd_m, ↓on_m, ↓ec_m, ↓reduceIte, if_true, if_false, true_and, and_true, false_and, and_false, true_or, or_true, false_or, or_false, Bool.false_eq_true, b2i_0, b2i_1, bl_0, bl_1, bl_b2, not_true_eq_false, not_false_eq_true, B_X6_goes_2, B_X6_goes_50, ho, k1]
    refine fwL T1 PL (fun g2 T2 u2 d2 _ => ?_)
    obtain ⟨cs2, hz2, kx2, ix2, -, -⟩ := GC.frL hx T2
    simp (disch := omega) only [i_lit, i_neg, i_add, i_sub, i_mul, i_ofNat, i_div, i_le, i_lt, i_eq, i_ix, i_inb, i_max, i_min, e_rem, j_lit, j_i, Int.reduceToNat, Int.reduceAdd, Int.reduceSub, Int.reduceMul, Int.reduceNeg, Int.reduceLT, Int.reduceLE, Int.reduceEq, gd_t, gd_T, ↓bd_m, ↓on_m, ↓ec_m, ↓reduceIte, if_true, if_false, true_and, and_true, false_and, and_false, true_or, or_true, false_or, or_false, Bool.false_eq_true, b2i_0, b2i_1, bl_0, bl_1, bl_b2, not_true_eq_false, not_false_eq_true, B_X6_goes_55, cs2.k420, cs2.rt, cs2.k, hz2, kx2, ix2]
    refine fwL T2 PL (fun g3 T3 u3 d3 _ => ?_)
    obtain ⟨cs3, hz3, kx3, ix3, -, -⟩ := GC.frL hx T3
    simp (disch := omega) only [i_lit, i_neg, i_add, i_sub, i_mul, i_ofNat, i_div, i_le, i_lt, i_eq, i_ix, i_inb, i_max, i_min, e_rem, j_lit, j_i, Int.reduceToNat, Int.reduceAdd, Int.reduceSub, Int.reduceMul, Int.reduceNeg, Int.reduceLT, Int.reduceLE, Int.reduceEq, gd_t, gd_T, ↓bd_m, ↓on_m, ↓ec_m, ↓reduceIte, if_true, if_false, true_and, and_true, false_and, and_false, true_or, or_true, false_or, or_false, Bool.false_eq_true, b2i_0, b2i_1, bl_0, bl_1, bl_b2, not_true_eq_false, not_false_eq_true, B_X6_goes_71, cs3.k420, cs3.rt, cs3.k, hz3, kx3, ix3]
    refine fwL T3 PL (fun g4 T4 u4 d4 _ => ?_)
    simp (disch := omega) only [i_lit, i_neg, i_add, i_sub, i_mul, i_ofNat, i_div, i_le, i_lt, i_eq, i_ix, i_inb, i_max, i_min, e_rem, j_lit, j_i, Int.reduceToNat, Int.reduceAdd, Int.reduceSub, Int.reduceMul, Int.reduceNeg, Int.reduceLT, Int.reduceLE, Int.reduceEq, gd_t, gd_T, ↓bd_m, ↓on_m, ↓ec_m, ↓reduceIte, if_true, if_false, true_and, and_true, false_and, and_false, true_or, or_true, false_or, or_false, Bool.false_eq_true, b2i_0, b2i_1, bl_0, bl_1, bl_b2, not_true_eq_false, not_false_eq_true, B_X6_goes_87]
    refine H g4 T4 (fun i' j hi' hj => ?_) ?_ ?_ u4
    · rw [d4 _ _ (by omega), d3 _ _ (by omega), d2 _ _ (by omega), d4 _ _ (by omega), d3 _ _ (by omega), d2 _ _ (by omega)]
      exact f1 i' j (by omega) hj
    · rw [d4 _ _ (by omega), d3 _ _ (by omega)]; exact u2
    · rw [d4 _ _ (by omega)]; exact u3
  · simp (disch := omega) only [i_lit, i_neg, i_add, i_sub, i_mul, i_ofNat, i_div, i_le, i_lt, i_eq, i_ix, i_inb, i_max, i_min, e_rem, j_lit, j_i, Int.reduceToNat, Int.reduceAdd, Int.reduceSub, Int.reduceMul, Int.reduceNeg, Int.reduceLT, Int.reduceLE, Int.reduceEq, gd_t, gd_T, ↓bd_m, ↓on_m, ↓ec_m, ↓reduceIte, if_true, if_false, true_and, and_true, false_and, and_false, true_or, or_true, false_or, or_false, Bool.false_eq_true, b2i_0, b2i_1, bl_0, bl_1, bl_b2, not_true_eq_false, not_false_eq_true, B_X6_goes_2, ho]
    have ih' := fun g2 (x1 : tf (LrP z) g0 g2) x2 => ih (g2, z + 420, N, seed, iI ((i + 1 : Nat) : Int)) (8 - (i + 1)) (by omega) ⟨g2, i + 1, rfl, by omega, rfl, x1, x2⟩
    rw [show (((i + 1 : Nat)) : Int) = (i : Int) + 1 by omega] at ih'
    clear ih
    unfold G_X6_goes_11
    refine lp_end (E := fun X => Ok2 X Y R) (fun s k => ∃ (g : AH) (j : Nat), s = (g, z + 420, N, seed, iI i, iI j) ∧ j ≤ 8 ∧ k = 8 - j ∧ tf (LrP z) g0 g ∧ (∀ i' j : Nat, i' < i → j < 8 → hI g (z + 422 + i') j = iI 0 ∧ hI g (z + 431 + i') j = iI 0) ∧ ∀ j' : Nat, j' < j → hI g (z + 422 + i) j' = iI 0 ∧ hI g (z + 431 + i) j' = iI 0) ?_ fuel 8 _ ⟨g, 0, rfl, by omega, by omega, T1, f1, fun j' hl => by omega⟩ (lt_fuel (by omega))
    clear T1 f1
    rintro self2 s k ⟨g, j, rfl, h2, rfl, T1, f1, f2⟩ ih
    have cs := (GC.frL hx T1).1
    unfold L_X6_goes_11
    by_cases hj : 8 ≤ (j : Int)
    · simp (disch := omega) only [i_lit, i_neg, i_add, i_sub, i_mul, i_ofNat, i_div, i_le, i_lt, i_eq, i_ix, i_inb, i_max, i_min, e_rem, j_lit, j_i, Int.reduceToNat, Int.reduceAdd, Int.reduceSub, Int.reduceMul, Int.reduceNeg, Int.reduceLT, Int.reduceLE, Int.reduceEq, gd_t, gd_T, ↓bd_m, ↓on_m, ↓ec_m, ↓reduceIte, if_true, if_false, true_and, and_true, false_and, and_false, true_or, or_true, false_or, or_false, Bool.false_eq_true, b2i_0, b2i_1, bl_0, bl_1, bl_b2, not_true_eq_false, not_false_eq_true, B_X6_goes_11, B_X6_goes_44, hj]
      refine ih' g T1 (fun i' j' q1 q2 => ?_)
      by_cases q : i' = i
      · subst q; exact f2 j' (by omega)
      · exact f1 i' j' (by omega) q2
    · have wA := cs.w421 i (by omega)
      have PA : LrP z (z + 422 + i) := by unfold LrP; omega
      have PB : LrP z (z + 431 + i) := by unfold LrP; omega
      simp (disch := omega) only [i_lit, i_neg, i_add, i_sub, i_mul, i_ofNat, i_div, i_le, i_lt, i_eq, i_ix, i_inb, i_max, i_min, e_rem, j_lit, j_i, Int.reduceToNat, Int.reduceAdd, Int.reduceSub, Int.reduceMul, Int.reduceNeg, Int.reduceLT, Int.reduceLE, Int.reduceEq, gd_t, gd_T, ↓bd_m, ↓on_m, ↓ec_m, ↓reduceIte, if_true, if_false, true_and, and_true, false_and, and_false, true_or, or_true, false_or, or_false, Bool.false_eq_true, b2i_0, b2i_1, bl_0, bl_1, bl_b2, not_true_eq_false, not_false_eq_true, B_X6_goes_11, hj, cs.k420, cs.ra, cs.k421, cs.l421, wA.1, wA.2.1, wA.2.2, Int.toNat_natCast]
      refine fwL T1 PA (fun g2 T2 u2 d2 _ => ?_)
      have cs2 := (GC.frL hx T2).1
      have wB := cs2.w430 i (by omega)
      simp (disch := omega) only [i_lit, i_neg, i_add, i_sub, i_mul, i_ofNat, i_div, i_le, i_lt, i_eq, i_ix, i_inb, i_max, i_min, e_rem, j_lit, j_i, Int.reduceToNat, Int.reduceAdd, Int.reduceSub, Int.reduceMul, Int.reduceNeg, Int.reduceLT, Int.reduceLE, Int.reduceEq, gd_t, gd_T, ↓bd_m, ↓on_m, ↓ec_m, ↓reduceIte, if_true, if_false, true_and, and_true, false_and, and_false, true_or, or_true, false_or, or_false, Bool.false_eq_true, b2i_0, b2i_1, bl_0, bl_1, bl_b2, not_true_eq_false, not_false_eq_true, B_X6_goes_28, cs2.k420, cs2.rb, cs2.k430, cs2.l430, wB.1, wB.2.1, wB.2.2, Int.toNat_natCast]
      refine fwL T2 PB (fun g3 T3 u3 d3 _ => ?_)
      have nx := ih (g3, z + 420, N, seed, iI i, iI ((j + 1 : Nat) : Int)) (8 - (j + 1)) (by omega) ⟨g3, j + 1, rfl, by omega, rfl, T3, fun i' j' q1 q2 => ?_, fun j' q1 => ?_⟩
      · rw [show (((j + 1 : Nat)) : Int) = (j : Int) + 1 by omega] at nx
        simp (disch := omega) only [i_lit, i_neg, i_add, i_sub, i_mul, i_ofNat, i_div, i_le, i_lt, i_eq, i_ix, i_inb, i_max, i_min, e_rem, j_lit, j_i, Int.reduceToNat, Int.reduceAdd, Int.reduceSub, Int.reduceMul, Int.reduceNeg, Int.reduceLT, Int.reduceLE, Int.reduceEq, gd_t, gd_T, ↓bd_m, ↓on_m, ↓ec_m, ↓reduceIte, if_true, if_false, true_and, and_true, false_and, and_false, true_or, or_true, false_or, or_false, Bool.false_eq_true, b2i_0, b2i_1, bl_0, bl_1, bl_b2, not_true_eq_false, not_false_eq_true, B_X6_goes_38]
        exact nx
      · rw [d3 _ _ (by omega), d2 _ _ (by omega), d3 _ _ (by omega), d2 _ _ (by omega)]
        exact f1 i' j' q1 q2
      · by_cases q : j' = j
        · subst q
          exact ⟨by rw [d3 _ _ (by omega)]; exact u2, u3⟩
        · rw [d3 _ _ (by omega), d2 _ _ (by omega), d3 _ _ (by omega), d2 _ _ (by omega)]
          exact f2 j' (by omega)
theorem learns0 {g0 : AH} {m : Nat} {τ : Nat → Int} {A B : Nat → Nat → Int} (GT : GTT g0 m τ A B) {N seed : Int32} {α : Type} {X : Option α} {R : α → AH → Prop} (H : ∀ g', tf (MP m) g0 g' → (∀ k, k ≠ 33 → k ≠ 34 → k ≠ 35 → hI g' m k = hI g0 m k) → hJ g' = hJ g0 → (∀ l, l < 128 → hI g' (m + 16) l = iI 0) → hI g' m 33 = seed → hI g' m 34 = iI (τ 3 - 1) → hI g' m 35 = iI (τ 3 - 1) → Ok2 X (G_X8_learns_51 g' m N (iI 0)) R) : Ok2 X (F_X8_learns g0 m N seed) R := by
  have PM : MP m m := Or.inl rfl
  have PT : MP m (m + 16) := Or.inr rfl
  have k0 := GT.1.s.k
  unfold F_X8_learns
  simp (disch := omega) only [i_lit, i_neg, i_add, i_sub, i_mul, i_ofNat, i_div, i_le, i_lt, i_eq, i_ix, i_inb, i_max, i_min, e_rem, j_lit, j_i, Int.reduceToNat, Int.reduceAdd, Int.reduceSub, Int.reduceMul, Int.reduceNeg, Int.reduceLT, Int.reduceLE, Int.reduceEq, gd_t, gd_T, ↓bd_m, ↓on_m, ↓ec_m, ↓reduceIte, if_true, if_false, true_and, and_true, false_and, and_false, true_or, or_true, false_or, or_false, Bool.false_eq_true, b2i_0, b2i_1, bl_0, bl_1, bl_b2, not_true_eq_false, not_false_eq_true, k0]
  refine fwR (tf.rfl (P := MP m) (h := g0)) PM (fun g1 T1 u1 d1 j1 => ?_)
  unfold B_X8_learns_5 G_X8_learns_7
  refine lp_end (E := fun Y => Ok2 X Y R) (fun s k => ∃ (g : AH) (i : Nat), s = (g, m, N, iI i) ∧ i ≤ 128 ∧ k = 128 - i ∧ tf (MP m) g0 g ∧ hJ g = hJ g0 ∧ hI g m = hI g1 m ∧ ∀ l : Nat, l < i → hI g (m + 16) l = iI 0) ?_ fuel 128 _ ⟨g1, 0, rfl, by omega, by omega, T1, j1, rfl, fun l hl => by omega⟩ (lt_fuel (by omega))
  rintro self s k ⟨g, i, rfl, h1, rfl, T, J, M, f1⟩ ih
  have t := GT.frL T
  have ts := t.1.s
  have ti := t.1.i
  unfold L_X8_learns_7
  by_cases ho : 128 ≤ i
  · have hT : (((128 : Nat) : Int) ≤ (i : Int)) = True := eq_true (by omega)
    simp (disch := omega) only [i_lit, i_neg, i_add, i_sub, i_mul, i_ofNat, i_div, i_le, i_lt, i_eq, i_ix, i_inb, i_max, i_min, e_rem, j_lit, j_i, Int.reduceToNat, Int.reduceAdd, Int.reduceSub, Int.reduceMul, Int.reduceNeg, Int.reduceLT, Int.reduceLE, Int.reduceEq, gd_t, gd_T, ↓bd_m, ↓on_m, ↓ec_m, ↓reduceIte, if_true, if_false, true_and, and_true, false_and, and_false, true_or, or_true, false_or, or_false, Bool.false_eq_true, b2i_0, b2i_1, bl_0, bl_1, bl_b2, not_true_eq_false, not_false_eq_true, B_X8_learns_7, B_X8_learns_29, ts.k, ts.r1, ts.k1, ts.l1, ts.r2, ts.k2, ts.l2, ts.r3, ts.k3, ts.l3, ts.r4, ts.k4, ts.l4, ts.r5, ts.k5, ts.l5, ts.r6, ts.k6, ts.l6, ts.r7, ts.k7, ts.l7, ts.r8, ts.k8, ts.l8, ts.r9, ts.k9, ts.l9, ts.r10, ts.k10, ts.l10, ts.r11, ts.k11, ts.l11, ts.r12, ts.k12, ts.l12, ts.r13, ts.k13, ts.l13, ts.r14, ts.k14, ts.l14, ts.r15, ts.k15, ts.l15, ts.r16, ts.k16, ts.l16, ts.r17, ts.k17, ts.l17, ts.r18, ts.k18, ts.l18, ts.r19, ts.k19, ts.l19, ts.r20, ts.k20, ts.l20, hT, ti]
    refine fwR T PM (fun g3 T3 u3 d3 j3 => ?_)
    have k3 := (GT.frL T3).1.s.k
    simp (disch := omega) only [i_lit, i_neg, i_add, i_sub, i_mul, i_ofNat, i_div, i_le, i_lt, i_eq, i_ix, i_inb, i_max, i_min, e_rem, j_lit, j_i, Int.reduceToNat, Int.reduceAdd, Int.reduceSub, Int.reduceMul, Int.reduceNeg, Int.reduceLT, Int.reduceLE, Int.reduceEq, gd_t, gd_T, ↓bd_m, ↓on_m, ↓ec_m, ↓reduceIte, if_true, if_false, true_and, and_true, false_and, and_false, true_or, or_true, false_or, or_false, Bool.false_eq_true, b2i_0, b2i_1, bl_0, bl_1, bl_b2, not_true_eq_false, not_false_eq_true, B_X8_learns_41, k3, u3]
    refine fwR T3 PM (fun g4 T4 u4 d4 j4 => ?_)
    simp (disch := omega) only [i_lit, i_neg, i_add, i_sub, i_mul, i_ofNat, i_div, i_le, i_lt, i_eq, i_ix, i_inb, i_max, i_min, e_rem, j_lit, j_i, Int.reduceToNat, Int.reduceAdd, Int.reduceSub, Int.reduceMul, Int.reduceNeg, Int.reduceLT, Int.reduceLE, Int.reduceEq, gd_t, gd_T, ↓bd_m, ↓on_m, ↓ec_m, ↓reduceIte, if_true, if_false, true_and, and_true, false_and, and_false, true_or, or_true, false_or, or_false, Bool.false_eq_true, b2i_0, b2i_1, bl_0, bl_1, bl_b2, not_true_eq_false, not_false_eq_true, B_X8_learns_49]
    refine H g4 T4 (fun k a1 a2 a3 => ?_) (by rw [j4, j3, J]) (fun l hl => ?_) ?_ ?_ u4
    · rw [d4 _ _ (by omega), d3 _ _ (by omega), M, d1 _ _ (by omega)]
    · rw [d4 _ _ (by omega), d3 _ _ (by omega)]
      exact f1 l (by omega)
    · rw [d4 _ _ (by omega), d3 _ _ (by omega), M]
      exact u1
    · rw [d4 _ _ (by omega)]; exact u3
  · have hT : (((128 : Nat) : Int) ≤ (i : Int)) = False := eq_false (by omega)
    simp (disch := omega) only [i_lit, i_neg, i_add, i_sub, i_mul, i_ofNat, i_div, i_le, i_lt, i_eq, i_ix, i_inb, i_max, i_min, e_rem, j_lit, j_i, Int.reduceToNat, Int.reduceAdd, Int.reduceSub, Int.reduceMul, Int.reduceNeg, Int.reduceLT, Int.reduceLE, Int.reduceEq, gd_t, gd_T, ↓bd_m, ↓on_m, ↓ec_m, ↓reduceIte, if_true, if_false, true_and, and_true, false_and, and_false, true_or, or_true, false_or, or_false, Bool.false_eq_true, b2i_0, b2i_1, bl_0, bl_1, bl_b2, not_true_eq_false, not_false_eq_true, B_X8_learns_7, ts.k, ts.r1, ts.k1, ts.l1, ts.r2, ts.k2, ts.l2, ts.r3, ts.k3, ts.l3, ts.r4, ts.k4, ts.l4, ts.r5, ts.k5, ts.l5, ts.r6, ts.k6, ts.l6, ts.r7, ts.k7, ts.l7, ts.r8, ts.k8, ts.l8, ts.r9, ts.k9, ts.l9, ts.r10, ts.k10, ts.l10, ts.r11, ts.k11, ts.l11, ts.r12, ts.k12, ts.l12, ts.r13, ts.k13, ts.l13, ts.r14, ts.k14, ts.l14, ts.r15, ts.k15, ts.l15, ts.r16, ts.k16, ts.l16, ts.r17, ts.k17, ts.l17, ts.r18, ts.k18, ts.l18, ts.r19, ts.k19, ts.l19, ts.r20, ts.k20, ts.l20, hT, Int.toNat_natCast]
    refine fwR T PT (fun g3 T3 u3 d3 j3 => ?_)
    have nx := ih (g3, m, N, iI ((i + 1 : Nat) : Int)) (128 - (i + 1)) (by omega) ⟨g3, i + 1, rfl, by omega, rfl, T3, by rw [j3]; exact J, by rw [← M]; funext l; exact d3 _ _ (by omega), fun l hl => ?_⟩
    · rw [show (((i + 1 : Nat)) : Int) = (i : Int) + 1 by omega] at nx
      simp (disch := omega) only [i_lit, i_neg, i_add, i_sub, i_mul, i_ofNat, i_div, i_le, i_lt, i_eq, i_ix, i_inb, i_max, i_min, e_rem, j_lit, j_i, Int.reduceToNat, Int.reduceAdd, Int.reduceSub, Int.reduceMul, Int.reduceNeg, Int.reduceLT, Int.reduceLE, Int.reduceEq, gd_t, gd_T, ↓bd_m, ↓on_m, ↓ec_m, ↓reduceIte, if_true, if_false, true_and, and_true, false_and, and_false, true_or, or_true, false_or, or_false, Bool.false_eq_true, b2i_0, b2i_1, bl_0, bl_1, bl_b2, not_true_eq_false, not_false_eq_true, B_X8_learns_23]
      exact nx
    · by_cases q : l = i
      · subst q; exact u3
      · rw [d3 _ _ (by omega)]
        exact f1 l (by omega)
theorem goes_run {g0 gT0 : AH} {z x m : Nat} {τ : Nat → Int} {A B : Nat → Nat → Int} (GC : GTC g0 z x (τ 3) A B) (GT : GTT gT0 m τ A B) (hx : ¬ (z + 269 ≤ x ∧ x ≤ z + 495)) (hn1 : 1 ≤ τ 3) {N : Nat} (hN : 1 ≤ N ∧ N ≤ 2000) (seed : Int32) : Ok2 (F_X6_goes g0 (z + 420) (iI N) seed) (F_X8_learns gT0 m (iI N) seed) (LEn g0 gT0 z m (τ 3)) := by
  refine goes0 GC hx (fun g T1 f1 f2 f3 f4 => learns0 GT (fun gT T2 e1 e2 e3 e4 e5 e6 => ?_))
  have en : (((τ 3 - 1).toNat : Nat) : Int) = τ 3 - 1 := by omega
  refine night_run GC GT hx hn1 (a := (τ 3 - 1).toNat) (b := (τ 3 - 1).toNat) ⟨T1, T2, e1, e2, fun i j hi hj => ?_, by rw [f2, e4]⟩ ?_ (by omega) (by omega) hN
  · rw [(f1 i j hi hj).1, (f1 i j hi hj).2, e3 _ (by omega), e3 _ (by omega)]
    exact ⟨rfl, rfl⟩
  · unfold LA
    rw [en]
    exact ⟨f3, e5, f4, e6⟩
/-- frames of learners alone -/
def LF (g0 gT0 g gT : AH) (z m : Nat) : Prop := tf (LrP z) g0 g ∧ tf (MP m) gT0 gT ∧ (∀ k, k ≠ 33 → k ≠ 34 → k ≠ 35 → hI gT m k = hI gT0 m k) ∧ hJ gT = hJ gT0
theorem LB.f {g0 gT0 g gT : AH} {z m : Nat} (L : LB g0 gT0 g gT z m) : LF g0 gT0 g gT z m := ⟨L.1, L.2.1, L.2.2.1, L.2.2.2.1⟩
theorem LF.trans {g0 gT0 g gT g' gT' : AH} {z m : Nat} (L : LF g0 gT0 g gT z m) (K : LF g gT g' gT' z m) : LF g0 gT0 g' gT' z m := ⟨L.1.trans K.1, L.2.1.trans K.2.1, fun k h1 h2 h3 => by rw [K.2.2.1 k h1 h2 h3, L.2.2.1 k h1 h2 h3], by rw [K.2.2.2, L.2.2.2]⟩
def GLP (z a : Nat) : Prop := GP z a ∨ LrP z a
theorem GLP_scr {z : Nat} : ∀ a, GLP z a → scr z a := fun a q => by unfold GLP GP LrP at q; unfold scr; omega
theorem RL.finL {o : Nat → Nat} {hC hT : AH} {z m x : Nat} {τ : Nat → Int} {υ : Nat → Int64} {e : Nat → Nat} {el : Nat → Nat → Nat} {lw : Nat} (r : RL o hC hT z m x τ υ e el lw) (g : rm z hC) {g0 gT0 g' gT' : AH} (T1 : tf (GP z) hC g0) (T2 : tf (TP m) (wI hT m 5 (iI 0)) gT0) (L : LF g0 gT0 g' gT' z m) (v : Int32) (w : Int64) (hw : w = v.toInt64) : VI z m (iI 0, wJ g' (z + 495) 0 w) (v, gT') ∧ FC z hC (wJ g' (z + 495) 0 w) ∧ FT m hT gT' ∧ Rx (wJ g' (z + 495) 0 w) gT' z m := by
  have ts := (r.tn.wm 5 (iI 0)).s
  have hT1 : ∀ a, ¬ (a = m + 10 ∨ a = m + 12) → hI gT0 a = hI (wI hT m 5 (iI 0)) a ∧ hJ gT0 a = hJ (wI hT m 5 (iI 0)) a := fun a q => ⟨T2.I q, T2.J q⟩
  have hm : ∀ k, k ≠ 33 → k ≠ 34 → k ≠ 35 → hI gT' m k = hI (wI hT m 5 (iI 0)) m k := fun k a1 a2 a3 => by rw [L.2.2.1 k a1 a2 a3, (hT1 m (by omega)).1]
  refine r.fin g ((T1.mono (fun _ q => Or.inl q)).trans (L.1.mono (fun _ q => Or.inr q)) : tf (GLP z) hC g') GLP_scr ((T2.mono (fun a q => by unfold TP at q; omega)).trans (L.2.1.mono (fun a q => by unfold MP at q; omega))) ⟨(ts.tf T2).tf L.2.1, fun a q => ⟨?_, ?_⟩, hm 9 (by omega) (by omega) (by omega), hm 18 (by omega) (by omega) (by omega), hm 19 (by omega) (by omega) (by omega), ?_, ?_⟩ (by rw [hm 5 (by omega) (by omega) (by omega), hI5]) v w hw
  · rw [L.2.1.I (by unfold MP; omega), (hT1 a (by omega)).1]
  · rw [L.2.1.J (by unfold MP; omega), (hT1 a (by omega)).2]
  · rw [L.2.2.2, (hT1 m (by omega)).2]
  · rw [L.2.2.2, (hT1 m (by omega)).2]
theorem op_learn {z m : Nat} (x1 x2 x3 x4 : Int32) : ∀ hC hT, Rx hC hT z m → rm z hC → Ok2 (F_X0_learn hC z x1 x2 x3 x4 (z + 495)) (F_X8_learn hT m x1 x2 x3 x4) (fun a b => VI z m a b ∧ FC z hC a.2 ∧ FT m hT b.2 ∧ Rx a.2 b.2 z m) := by
  intro hC hT ⟨o, x, τ, υ, e, el, lw, r⟩ g
  have hn4 := r.c.rg.n
  have cs := r.cs
  have c := r.c
  have hz := r.hz
  have ts0 := r.tn.s
  have tn := r.tn.wm 5 (iI 0)
  have ti := tn.i
  have ts := tn.s
  have hgi := c.rg.i
  have gr : 1 ≤ hc hC ∧ 6 ≤ hs hC := by have := g.1; have := g.2.1; omega
  obtain ⟨ia, rfl, h1⟩ := i_ex x1
  obtain ⟨ib, rfl, h2⟩ := i_ex x2
  obtain ⟨N, rfl, h3⟩ := i_ex x3
  have hl8 := c.rg.l
  have hw := within_eq hT (a := N) (b := 1) (c := 2000) (by omega) (by omega) (by omega)
  have hi := isIn_eq hC (a := N) (b := 1) (c := 2000) (by omega) (by omega) (by omega)
  rcases two_cases r gr h1 h2 with ⟨a, b, rfl, rfl, ha, hb, hab, e1, e2⟩ | ⟨e1, e2⟩ | ⟨e1, e2⟩
  · have e2 := e2 hT r.tn
    by_cases q1 : 1 ≤ N ∧ N ≤ 2000
    · rw [b2_t q1] at hw hi
      by_cases q2 : τ 3 = 0
      · simp (disch := omega) only [i_lit, i_neg, i_add, i_sub, i_mul, i_ofNat, i_div, i_le, i_lt, i_eq, i_ix, i_inb, i_max, i_min, e_rem, j_lit, j_i, Int.reduceToNat, Int.reduceAdd, Int.reduceSub, Int.reduceMul, Int.reduceNeg, Int.reduceLT, Int.reduceLE, Int.reduceEq, gd_t, gd_T, ↓bd_m, ↓lh_t, ↓on_m, ↓ec_m, ↓reduceIte, if_true, if_false, true_and, and_true, false_and, and_false, true_or, or_true, false_or, or_false, Bool.false_eq_true, b2i_0, b2i_1, bl_0, bl_1, bl_b2, not_true_eq_false, not_false_eq_true, F_X0_learn, F_X1_learn, F_X8_learn, F_X8_learnFault, B_X8_learnFault_35, B_X8_learn_14, cs.k, e1, hi, right_t, hz, c.k, c.i10, q2, g.2.2.1, g.2.2.2.1, ts0.k, ts0.r1, ts0.k1, ts0.l1, ts0.r2, ts0.k2, ts0.l2, ts0.r3, ts0.k3, ts0.l3, ts0.r4, ts0.k4, ts0.l4, ts0.r5, ts0.k5, ts0.l5, ts0.r6, ts0.k6, ts0.l6, ts0.r7, ts0.k7, ts0.l7, ts0.r8, ts0.k8, ts0.l8, ts0.r9, ts0.k9, ts0.l9, ts0.r10, ts0.k10, ts0.l10, ts0.r11, ts0.k11, ts0.l11, ts0.r12, ts0.k12, ts0.l12, ts0.r13, ts0.k13, ts0.l13, ts0.r14, ts0.k14, ts0.l14, ts0.r15, ts0.k15, ts0.l15, ts0.r16, ts0.k16, ts0.l16, ts0.r17, ts0.k17, ts0.l17, ts0.r18, ts0.k18, ts0.l18, ts0.r19, ts0.k19, ts0.l19, ts0.r20, ts0.k20, ts0.l20, ti, e2, hw, hK_wI, hL_wI, hR_wI, hI5]
        exact Ok2.some (r.finT g (tf0 (P := GP z)) GP_scr (tf0 (P := TP m)) TP_rng _ _ (j_i (by omega)).symm)
      · obtain ⟨N, rfl⟩ := Int.eq_ofNat_of_zero_le (show 0 ≤ N by omega)
        obtain ⟨hC', hT', A, B, w1, w2, T1, T2, GC, GT, bA, bB, ko, lo⟩ := game_laid r g ha hb hab
        obtain ⟨⟨u, g'⟩, gT', f1, f2, L, p, q, hp, hq, La, hu⟩ := goes_run GC GT r.nx (by omega) (N := N) (by omega) x4
        have hu : u = iI (10 * (p : Int) + q) := hu
        subst hu
        have cs' := GC.1
        have ts' := GT.1.s
        have ts2 := (GT.frL L.2.1).1.s
        have ko' : hK g' (z + 495) = 102 := by rw [L.1.K]; exact ko
        have lo' : hL g' (z + 495) = 1 := by rw [L.1.L]; exact lo
        have l34 : hI gT' m 34 = iI p := La.2.1
        have l35 : hI gT' m 35 = iI q := La.2.2.2
        have qF : (τ 3 = 0) = False := eq_false q2
        simp (disch := omega) only [i_lit, i_neg, i_add, i_sub, i_mul, i_ofNat, i_div, i_le, i_lt, i_eq, i_ix, i_inb, i_max, i_min, e_rem, j_lit, j_i, Int.reduceToNat, Int.reduceAdd, Int.reduceSub, Int.reduceMul, Int.reduceNeg, Int.reduceLT, Int.reduceLE, Int.reduceEq, gd_t, gd_T, ↓bd_m, ↓lh_t, ↓on_m, ↓ec_m, ↓reduceIte, if_true, if_false, true_and, and_true, false_and, and_false, true_or, or_true, false_or, or_false, Bool.false_eq_true, b2i_0, b2i_1, bl_0, bl_1, bl_b2, not_true_eq_false, not_false_eq_true, F_X0_learn, F_X1_learn, F_X8_learn, F_X8_learnFault, B_X8_learnFault_35, B_X8_learn_14, cs.k, e1, hi, right_t, hz, c.k, c.i10, qF, w1, cs'.k, cs'.r420, cs'.k420, f1, ko', lo', ts0.k, ts0.r1, ts0.k1, ts0.l1, ts0.r2, ts0.k2, ts0.l2, ts0.r3, ts0.k3, ts0.l3, ts0.r4, ts0.k4, ts0.l4, ts0.r5, ts0.k5, ts0.l5, ts0.r6, ts0.k6, ts0.l6, ts0.r7, ts0.k7, ts0.l7, ts0.r8, ts0.k8, ts0.l8, ts0.r9, ts0.k9, ts0.l9, ts0.r10, ts0.k10, ts0.l10, ts0.r11, ts0.k11, ts0.l11, ts0.r12, ts0.k12, ts0.l12, ts0.r13, ts0.k13, ts0.l13, ts0.r14, ts0.k14, ts0.l14, ts0.r15, ts0.k15, ts0.l15, ts0.r16, ts0.k16, ts0.l16, ts0.r17, ts0.k17, ts0.l17, ts0.r18, ts0.k18, ts0.l18, ts0.r19, ts0.k19, ts0.l19, ts0.r20, ts0.k20, ts0.l20, ti, e2, hw, hK_wI, hL_wI, hR_wI, hI5, w2, ts'.k, f2, ts2.k, l34, l35]
        exact Ok2.some (r.finL g T1 T2 L.f _ _ (j_i (by omega)).symm)
    · rw [b2_f q1] at hw hi
      simp (disch := omega) only [i_lit, i_neg, i_add, i_sub, i_mul, i_ofNat, i_div, i_le, i_lt, i_eq, i_ix, i_inb, i_max, i_min, e_rem, j_lit, j_i, Int.reduceToNat, Int.reduceAdd, Int.reduceSub, Int.reduceMul, Int.reduceNeg, Int.reduceLT, Int.reduceLE, Int.reduceEq, gd_t, gd_T, ↓bd_m, ↓lh_t, ↓on_m, ↓ec_m, ↓reduceIte, if_true, if_false, true_and, and_true, false_and, and_false, true_or, or_true, false_or, or_false, Bool.false_eq_true, b2i_0, b2i_1, bl_0, bl_1, bl_b2, not_true_eq_false, not_false_eq_true, F_X0_learn, F_X1_learn, B_X0_learn_21, F_X8_learn, F_X8_learnFault, B_X8_learnFault_35, B_X8_learn_14, cs.k, e1, hi, right_f gr, ts0.k, e2, hw, hK_wI, hI5, Nat.reduceEqDiff]
      exact Ok2.some (r.bad1 _ (by decide))
  · have e2 := e2 hT r.tn
    simp (disch := omega) only [i_lit, i_neg, i_add, i_sub, i_mul, i_ofNat, i_div, i_le, i_lt, i_eq, i_ix, i_inb, i_max, i_min, e_rem, j_lit, j_i, Int.reduceToNat, Int.reduceAdd, Int.reduceSub, Int.reduceMul, Int.reduceNeg, Int.reduceLT, Int.reduceLE, Int.reduceEq, gd_t, gd_T, ↓bd_m, ↓lh_t, ↓on_m, ↓ec_m, ↓reduceIte, if_true, if_false, true_and, and_true, false_and, and_false, true_or, or_true, false_or, or_false, Bool.false_eq_true, b2i_0, b2i_1, bl_0, bl_1, bl_b2, not_true_eq_false, not_false_eq_true, F_X0_learn, F_X1_learn, B_X0_learn_17, F_X8_learn, F_X8_learnFault, B_X8_learnFault_35, B_X8_learn_14, cs.k, e1, ts0.k, e2, hK_wI, hI5, Nat.reduceEqDiff]
    exact Ok2.some (r.bad1 _ (by decide))
  · have e2 := e2 hT r.tn
    simp (disch := omega) only [i_lit, i_neg, i_add, i_sub, i_mul, i_ofNat, i_div, i_le, i_lt, i_eq, i_ix, i_inb, i_max, i_min, e_rem, j_lit, j_i, Int.reduceToNat, Int.reduceAdd, Int.reduceSub, Int.reduceMul, Int.reduceNeg, Int.reduceLT, Int.reduceLE, Int.reduceEq, gd_t, gd_T, ↓bd_m, ↓lh_t, ↓on_m, ↓ec_m, ↓reduceIte, if_true, if_false, true_and, and_true, false_and, and_false, true_or, or_true, false_or, or_false, Bool.false_eq_true, b2i_0, b2i_1, bl_0, bl_1, bl_b2, not_true_eq_false, not_false_eq_true, F_X0_learn, F_X1_learn, B_X0_learn_21, F_X8_learn, F_X8_learnFault, B_X8_learnFault_35, B_X8_learn_14, cs.k, e1, ts0.k, e2, hK_wI, hI5, Nat.reduceEqDiff]
    exact Ok2.some (r.bad1 _ (by decide))
theorem op_punish {z m : Nat} (x1 x2 x3 x4 x5 : Int32) : ∀ hC hT, Rx hC hT z m → rm z hC → Ok2 (F_X0_punish hC z x1 x2 x3 x4 x5 (z + 495)) (F_X8_punish hT m x1 x2 x3 x4 x5) (fun a b => VI z m a b ∧ FC z hC a.2 ∧ FT m hT b.2 ∧ Rx a.2 b.2 z m) := by
  intro hC hT ⟨o, x, τ, υ, e, el, lw, r⟩ g
  have hn4 := r.c.rg.n
  have cs := r.cs
  have c := r.c
  have hz := r.hz
  have ts0 := r.tn.s
  have tn := r.tn.wm 5 (iI 0)
  have ti := tn.i
  have ts := tn.s
  have hgi := c.rg.i
  have gr : 1 ≤ hc hC ∧ 6 ≤ hs hC := by have := g.1; have := g.2.1; omega
  obtain ⟨ia, rfl, h1⟩ := i_ex x1
  obtain ⟨ib, rfl, h2⟩ := i_ex x2
  obtain ⟨N, rfl, h3⟩ := i_ex x3
  obtain ⟨d, rfl, h5⟩ := i_ex x5
  have hl8 := c.rg.l
  have l0 := isLevel_eq tn c.rg h5
  have hw := within_eq hT (a := N) (b := 1) (c := 2000) (by omega) (by omega) (by omega)
  have hi := isIn_eq hC (a := N) (b := 1) (c := 2000) (by omega) (by omega) (by omega)
  rcases two_cases r gr h1 h2 with ⟨a, b, rfl, rfl, ha, hb, hab, e1, e2⟩ | ⟨e1, e2⟩ | ⟨e1, e2⟩
  · have e2 := e2 hT r.tn
    by_cases q1 : 1 ≤ N ∧ N ≤ 2000
    · rw [b2_t q1] at hw hi
      by_cases q2 : 0 ≤ d ∧ d ≤ τ 3 - 1
      · rw [b2_t q2] at l0
        have m2 := mustBeLevel_t r q2
        obtain ⟨d, rfl⟩ := Int.eq_ofNat_of_zero_le q2.1
        obtain ⟨N, rfl⟩ := Int.eq_ofNat_of_zero_le (show 0 ≤ N by omega)
        obtain ⟨hC', hT', A, B, w1, w2, T1, T2, GC, GT, bA, bB, ko, lo⟩ := game_laid r g ha hb hab
        obtain ⟨⟨u, g'⟩, gT', f1, f2, L, p, q, hp, hq, La, hu⟩ := goes_run GC GT r.nx (by omega) (N := N) (by omega) x4
        obtain ⟨v, v1, v2, v3⟩ := grt_at GC GT r.nx (by omega) L (w := 1) (i := d) (by omega) (by omega)
        have v2 : F_X6_greatest g' (z + 420) (z + 431 + d) = some (iI v) := v2
        have v3 : F_X8_greatest gT' m (iI 1) (iI d) = some (iI v) := v3
        have cs' := GC.1
        have ts' := GT.1.s
        have cs2 := (GC.frL r.nx L.1).1
        have ts2 := (GT.frL L.2.1).1.s
        have wB := cs2.w430 d (by omega)
        have ko' : hK g' (z + 495) = 102 := by rw [L.1.K]; exact ko
        have lo' : hL g' (z + 495) = 1 := by rw [L.1.L]; exact lo
        simp (disch := omega) only [i_lit, i_neg, i_add, i_sub, i_mul, i_ofNat, i_div, i_le, i_lt, i_eq, i_ix, i_inb, i_max, i_min, e_rem, j_lit, j_i, Int.reduceToNat, Int.reduceAdd, Int.reduceSub, Int.reduceMul, Int.reduceNeg, Int.reduceLT, Int.reduceLE, Int.reduceEq, gd_t, gd_T, ↓bd_m, ↓lh_t, ↓on_m, ↓ec_m, ↓reduceIte, if_true, if_false, true_and, and_true, false_and, and_false, true_or, or_true, false_or, or_false, Bool.false_eq_true, b2i_0, b2i_1, bl_0, bl_1, bl_b2, not_true_eq_false, not_false_eq_true, F_X0_punish, F_X1_punish, F_X8_punish, F_X8_learnFault, B_X8_learnFault_35, B_X8_punish_14, cs.k, e1, hi, right_t, m2, w1, cs'.k, cs'.r420, cs'.k420, f1, cs2.k, cs2.r420, cs2.k420, cs2.rb, cs2.k430, cs2.l430, wB.1, v2, ko', lo', ts0.k, e2, hw, hK_wI, hI5, l0, w2, ts'.k, f2, ts2.k, v3, Int.toNat_natCast]
        exact Ok2.some (r.finL g T1 T2 L.f _ _ (j_i (by omega)).symm)
      · rw [b2_f q2] at l0
        have m2 := mustBeLevel_f r gr h5 q2
        simp (disch := omega) only [i_lit, i_neg, i_add, i_sub, i_mul, i_ofNat, i_div, i_le, i_lt, i_eq, i_ix, i_inb, i_max, i_min, e_rem, j_lit, j_i, Int.reduceToNat, Int.reduceAdd, Int.reduceSub, Int.reduceMul, Int.reduceNeg, Int.reduceLT, Int.reduceLE, Int.reduceEq, gd_t, gd_T, ↓bd_m, ↓lh_t, ↓on_m, ↓ec_m, ↓reduceIte, if_true, if_false, true_and, and_true, false_and, and_false, true_or, or_true, false_or, or_false, Bool.false_eq_true, b2i_0, b2i_1, bl_0, bl_1, bl_b2, not_true_eq_false, not_false_eq_true, F_X0_punish, F_X1_punish, B_X0_punish_27, F_X8_punish, F_X8_learnFault, B_X8_learnFault_35, B_X8_punish_14, cs.k, e1, hi, right_t, m2, ts0.k, e2, hw, hK_wI, hI5, l0, fails_eq ts.k, Nat.reduceEqDiff]
        exact Ok2.some (r.bad _ (by decide))
    · rw [b2_f q1] at hw hi
      simp (disch := omega) only [i_lit, i_neg, i_add, i_sub, i_mul, i_ofNat, i_div, i_le, i_lt, i_eq, i_ix, i_inb, i_max, i_min, e_rem, j_lit, j_i, Int.reduceToNat, Int.reduceAdd, Int.reduceSub, Int.reduceMul, Int.reduceNeg, Int.reduceLT, Int.reduceLE, Int.reduceEq, gd_t, gd_T, ↓bd_m, ↓lh_t, ↓on_m, ↓ec_m, ↓reduceIte, if_true, if_false, true_and, and_true, false_and, and_false, true_or, or_true, false_or, or_false, Bool.false_eq_true, b2i_0, b2i_1, bl_0, bl_1, bl_b2, not_true_eq_false, not_false_eq_true, F_X0_punish, F_X1_punish, B_X0_punish_23, F_X8_punish, F_X8_learnFault, B_X8_learnFault_35, B_X8_punish_14, cs.k, e1, hi, right_f gr, ts0.k, e2, hw, hK_wI, hI5, Nat.reduceEqDiff]
      exact Ok2.some (r.bad1 _ (by decide))
  · have e2 := e2 hT r.tn
    simp (disch := omega) only [i_lit, i_neg, i_add, i_sub, i_mul, i_ofNat, i_div, i_le, i_lt, i_eq, i_ix, i_inb, i_max, i_min, e_rem, j_lit, j_i, Int.reduceToNat, Int.reduceAdd, Int.reduceSub, Int.reduceMul, Int.reduceNeg, Int.reduceLT, Int.reduceLE, Int.reduceEq, gd_t, gd_T, ↓bd_m, ↓lh_t, ↓on_m, ↓ec_m, ↓reduceIte, if_true, if_false, true_and, and_true, false_and, and_false, true_or, or_true, false_or, or_false, Bool.false_eq_true, b2i_0, b2i_1, bl_0, bl_1, bl_b2, not_true_eq_false, not_false_eq_true, F_X0_punish, F_X1_punish, B_X0_punish_19, F_X8_punish, F_X8_learnFault, B_X8_learnFault_35, B_X8_punish_14, cs.k, e1, ts0.k, e2, hK_wI, hI5, Nat.reduceEqDiff]
    exact Ok2.some (r.bad1 _ (by decide))
  · have e2 := e2 hT r.tn
    simp (disch := omega) only [i_lit, i_neg, i_add, i_sub, i_mul, i_ofNat, i_div, i_le, i_lt, i_eq, i_ix, i_inb, i_max, i_min, e_rem, j_lit, j_i, Int.reduceToNat, Int.reduceAdd, Int.reduceSub, Int.reduceMul, Int.reduceNeg, Int.reduceLT, Int.reduceLE, Int.reduceEq, gd_t, gd_T, ↓bd_m, ↓lh_t, ↓on_m, ↓ec_m, ↓reduceIte, if_true, if_false, true_and, and_true, false_and, and_false, true_or, or_true, false_or, or_false, Bool.false_eq_true, b2i_0, b2i_1, bl_0, bl_1, bl_b2, not_true_eq_false, not_false_eq_true, F_X0_punish, F_X1_punish, B_X0_punish_23, F_X8_punish, F_X8_learnFault, B_X8_learnFault_35, B_X8_punish_14, cs.k, e1, ts0.k, e2, hK_wI, hI5, Nat.reduceEqDiff]
    exact Ok2.some (r.bad1 _ (by decide))
