/-! PURE GK: above -/
set_option maxRecDepth 100000
theorem above_run {g0 gT0 : AH} {z x m : Nat} {τ : Nat → Int} {A B : Nat → Nat → Int} (GC : GTC g0 z x (τ 3) A B) (GT : GTT gT0 m τ A B) (bA : bdd (τ 3) A) (bB : bdd (τ 3) B) (hx : ¬ (z + 269 ≤ x ∧ x ≤ z + 495)) {N M i j : Nat} (hN : 1 ≤ N ∧ N ≤ 300) (hM : 1 ≤ M ∧ M ≤ 20) (hi : (i : Int) < τ 3) (hj : (j : Int) < τ 3) : Ok2 (G_X1_above_66 g0 z (iI N) (iI M) (iI (10 * (i : Int) + j)) (iI 0) (iI 1)) (G_X8_above_91 gT0 m (iI N) (iI M) (iI (A i j + B i j)) (iI 0) (iI 1)) (fun a b => ∃ (w : Nat) (g gT : AH), a = .inl (iI w, g) ∧ b = (iI w, gT) ∧ w ≤ 20 ∧ LF g0 gT0 g gT z m) := by
  have hl8 := GT.2.1
  have ⟨b1, b2⟩ := bA i j hi hj
  have ⟨b3, b4⟩ := bB i j hi hj
  unfold G_X1_above_66 G_X8_above_91
  refine lp_ok2 (fun s u k => ∃ (g gT : AH) (w t : Nat), s = (g, z, iI N, iI M, iI (10 * (i : Int) + j), iI w, iI t) ∧ u = (gT, m, iI N, iI M, iI (A i j + B i j), iI w, iI t) ∧ t ≤ M + 1 ∧ k = M + 1 - t ∧ w + 1 ≤ t ∧ LF g0 gT0 g gT z m) ?_ fuel M _ _ ⟨g0, gT0, 0, 1, rfl, rfl, by omega, by omega, by omega, ⟨tf.rfl, tf.rfl, fun _ _ _ _ => rfl, rfl⟩⟩ (lt_fuel (by omega))
  rintro f1 f2 s u k ⟨g, gT, w, t, rfl, rfl, h1, rfl, h2, F⟩ ih
  have c := GC.frL hx F.1
  have t0 := GT.frL F.2.1
  have cs := c.1
  have ts := t0.1.s
  unfold L_X1_above_66 L_X8_above_91
  by_cases ho : (M : Int) < (t : Int)
  · simp (disch := omega) only [i_lit, i_neg, i_add, i_sub, i_mul, i_ofNat, i_div, i_le, i_lt, i_eq, i_ix, i_inb, i_max, i_min, e_rem, j_lit, j_i, Int.reduceToNat, Int.reduceAdd, Int.reduceSub, Int.reduceMul, Int.reduceNeg, Int.reduceLT, Int.reduceLE, Int.reduceEq, gd_t, gd_T, ↓bd_m, ↓on_m, ↓ec_m, ↓reduceIte, if_true, if_false, true_and, and_true, false_and, and_false, true_or, or_true, false_or, or_false, Bool.false_eq_true, b2i_0, b2i_1, bl_0, bl_1, bl_b2, not_true_eq_false, not_false_eq_true, B_X1_above_66, B_X1_above_112, B_X8_above_91, B_X8_above_138, ho]
    exact Ok2.some ⟨w, g, gT, rfl, rfl, by omega, F⟩
  · obtain ⟨⟨v, g'⟩, gT', e1, e2, L, p, q, hp, hq, La, hv⟩ := goes_run c t0 hx (by omega) (N := N) (by omega) (iI t)
    have hv : v = iI (10 * (p : Int) + q) := hv
    subst hv
    have F' := F.trans L.f
    have c' := GC.frL hx F'.1
    have t' := GT.frL F'.2.1
    have cs' := c'.1
    have ts' := t'.1.s
    have l34 : hI gT' m 34 = iI p := La.2.1
    have l35 : hI gT' m 35 = iI q := La.2.2.2
    have ⟨b5, b6⟩ := bA p q hp hq
    have ⟨b7, b8⟩ := bB p q hp hq
    have nx := fun (w' : Nat) (hw' : w' + 1 ≤ t + 1) => ih (g', z, iI N, iI M, iI (10 * (i : Int) + j), iI w', iI ((t + 1 : Nat) : Int)) (gT', m, iI N, iI M, iI (A i j + B i j), iI w', iI ((t + 1 : Nat) : Int)) (M + 1 - (t + 1)) (by omega) ⟨g', gT', w', t + 1, rfl, rfl, by omega, rfl, hw', F'⟩
    rw [show (((t + 1 : Nat)) : Int) = (t : Int) + 1 by omega] at nx
    by_cases o : A p q + B p q ≤ A i j + B i j
    · have nx := nx w (by omega)
      simp (disch := omega) only [i_lit, i_neg, i_add, i_sub, i_mul, i_ofNat, i_div, i_le, i_lt, i_eq, i_ix, i_inb, i_max, i_min, e_rem, j_lit, j_i, Int.reduceToNat, Int.reduceAdd, Int.reduceSub, Int.reduceMul, Int.reduceNeg, Int.reduceLT, Int.reduceLE, Int.reduceEq, gd_t, gd_T, ↓bd_m, ↓on_m, ↓ec_m, ↓reduceIte, if_true, if_false, true_and, and_true, false_and, and_false, true_or, or_true, false_or, or_false, Bool.false_eq_true, b2i_0, b2i_1, bl_0, bl_1, bl_b2, not_true_eq_false, not_false_eq_true, B_X1_above_66, B_X1_above_103, B_X8_above_91, B_X8_above_129, ho, cs.k, cs.r420, cs.k420, e1, cs'.k, both_at c' hp hq, both_at c' hi hj, ts.k, e2, ts'.k, l34, l35, both_to t' hp hq, o, Int.add_zero]
      exact nx
    · have nx := nx (w + 1) (by omega)
      rw [show (((w + 1 : Nat)) : Int) = (w : Int) + 1 by omega] at nx
      simp (disch := omega) only [i_lit, i_neg, i_add, i_sub, i_mul, i_ofNat, i_div, i_le, i_lt, i_eq, i_ix, i_inb, i_max, i_min, e_rem, j_lit, j_i, Int.reduceToNat, Int.reduceAdd, Int.reduceSub, Int.reduceMul, Int.reduceNeg, Int.reduceLT, Int.reduceLE, Int.reduceEq, gd_t, gd_T, ↓bd_m, ↓on_m, ↓ec_m, ↓reduceIte, if_true, if_false, true_and, and_true, false_and, and_false, true_or, or_true, false_or, or_false, Bool.false_eq_true, b2i_0, b2i_1, bl_0, bl_1, bl_b2, not_true_eq_false, not_false_eq_true, B_X1_above_66, B_X1_above_103, B_X8_above_91, B_X8_above_129, ho, cs.k, cs.r420, cs.k420, e1, cs'.k, both_at c' hp hq, both_at c' hi hj, ts.k, e2, ts'.k, l34, l35, both_to t' hp hq, o]
      exact nx
theorem op_above {z m : Nat} (x1 x2 x3 x4 : Int32) : ∀ hC hT, Rx hC hT z m → rm z hC → Ok2 (F_X0_above hC z x1 x2 x3 x4 (z + 495)) (F_X8_above hT m x1 x2 x3 x4) (fun a b => VI z m a b ∧ FC z hC a.2 ∧ FT m hT b.2 ∧ Rx a.2 b.2 z m) := by
  intro hC hT ⟨o, x, τ, υ, e, el, lw, r⟩ g
  have hn4 := r.c.rg.n
  have cs := r.cs
  have c := r.c
  have hz := r.hz
  have ts0 := r.tn.s
  have tn := r.tn.wm 5 (iI 0)
  have ti := tn.i
  have ts := tn.s
  have hgi := c.rg.i
  have gr : 1 ≤ hc hC ∧ 6 ≤ hs hC := by have := g.1; have := g.2.1; omega
  obtain ⟨ia, rfl, h1⟩ := i_ex x1
  obtain ⟨ib, rfl, h2⟩ := i_ex x2
  obtain ⟨N, rfl, h3⟩ := i_ex x3
  obtain ⟨M, rfl, h4⟩ := i_ex x4
  have hl8 := c.rg.l
  have hw := within_eq hT (a := N) (b := 1) (c := 300) (by omega) (by omega) (by omega)
  have hi := isIn_eq hC (a := N) (b := 1) (c := 300) (by omega) (by omega) (by omega)
  have hw2 := within_eq (wI hT m 5 (iI 0)) (a := M) (b := 1) (c := 20) (by omega) (by omega) (by omega)
  have hi2 := isIn_eq hC (a := M) (b := 1) (c := 20) (by omega) (by omega) (by omega)
  rcases two_cases r gr h1 h2 with ⟨a, b, rfl, rfl, ha, hb, hab, e1, e2⟩ | ⟨e1, e2⟩ | ⟨e1, e2⟩
  · have e2 := e2 hT r.tn
    by_cases q1 : 1 ≤ N ∧ N ≤ 300
    · rw [b2_t q1] at hw hi
      by_cases q2 : 1 ≤ M ∧ M ≤ 20
      · rw [b2_t q2] at hw2 hi2
        obtain ⟨N, rfl⟩ := Int.eq_ofNat_of_zero_le (show 0 ≤ N by omega)
        obtain ⟨M, rfl⟩ := Int.eq_ofNat_of_zero_le (show 0 ≤ M by omega)
        obtain ⟨hC', hT', A, B, w1, w2, T1, T2, GC, GT, bA, bB, ko, lo⟩ := game_laid r g ha hb hab
        obtain ⟨u, u', f1, f2, rfl, w, rfl, f4, f5⟩ := even_run GC GT bA bB (k := 0) (by omega)
        have cs' := GC.1
        have ts' := GT.1.s
        by_cases q3 : w = -1
        · simp (disch := omega) only [i_lit, i_neg, i_add, i_sub, i_mul, i_ofNat, i_div, i_le, i_lt, i_eq, i_ix, i_inb, i_max, i_min, e_rem, j_lit, j_i, Int.reduceToNat, Int.reduceAdd, Int.reduceSub, Int.reduceMul, Int.reduceNeg, Int.reduceLT, Int.reduceLE, Int.reduceEq, gd_t, gd_T, ↓bd_m, ↓lh_t, ↓on_m, ↓ec_m, ↓reduceIte, if_true, if_false, true_and, and_true, false_and, and_false, true_or, or_true, false_or, or_false, Bool.false_eq_true, b2i_0, b2i_1, bl_0, bl_1, bl_b2, not_true_eq_false, not_false_eq_true, F_X0_above, F_X1_above, B_X1_above_36, F_X8_above, F_X8_learnFault, B_X8_learnFault_35, B_X8_above_14, B_X8_above_39, cs.k, e1, hi, hi2, right_t, w1, cs'.k, f1, q3, ko, lo, ts0.k, e2, hw, hw2, hK_wI, hI5, w2, ts'.k, f2]
          exact Ok2.some (r.finT g T1 GP_scr T2 TP_rng _ _ (j_i (by omega)).symm)
        · obtain ⟨i, j, hi', hj', rfl⟩ := f5 (by omega) q3
          have qF : (10 * (i : Int) + (j : Int) = -1) = False := eq_false q3
          obtain ⟨s, s', k1, k2, v, gE, gTE, rfl, rfl, vb, F⟩ := above_run GC GT bA bB r.nx (N := N) (M := M) (by omega) (by omega) hi' hj'
          have y1 : (10 * (i : Int) + (j : Int)) / 10 = (i : Int) := by omega
          have y2 : (10 * (i : Int) + (j : Int)) - (i : Int) * 10 = (j : Int) := by omega
          have ko' : hK gE (z + 495) = 102 := by rw [F.1.K]; exact ko
          have lo' : hL gE (z + 495) = 1 := by rw [F.1.L]; exact lo
          simp (disch := omega) only [i_lit, i_neg, i_add, i_sub, i_mul, i_ofNat, i_div, i_le, i_lt, i_eq, i_ix, i_inb, i_max, i_min, e_rem, j_lit, j_i, Int.reduceToNat, Int.reduceAdd, Int.reduceSub, Int.reduceMul, Int.reduceNeg, Int.reduceLT, Int.reduceLE, Int.reduceEq, gd_t, gd_T, ↓bd_m, ↓lh_t, ↓on_m, ↓ec_m, ↓reduceIte, if_true, if_false, true_and, and_true, false_and, and_false, true_or, or_true, false_or, or_false, Bool.false_eq_true, b2i_0, b2i_1, bl_0, bl_1, bl_b2, not_true_eq_false, not_false_eq_true, F_X0_above, F_X1_above, B_X1_above_36, F_X8_above, F_X8_learnFault, B_X8_learnFault_35, B_X8_above_14, B_X8_above_39, cs.k, e1, hi, hi2, right_t, w1, cs'.k, f1, qF, k1, ko', lo', ts0.k, e2, hw, hw2, hK_wI, hI5, w2, ts'.k, f2, y1, y2, both_to GT hi' hj', k2]
          exact Ok2.some (r.finL g T1 T2 F _ _ (j_i (by omega)).symm)
      · rw [b2_f q2] at hw2 hi2
        simp (disch := omega) only [i_lit, i_neg, i_add, i_sub, i_mul, i_ofNat, i_div, i_le, i_lt, i_eq, i_ix, i_inb, i_max, i_min, e_rem, j_lit, j_i, Int.reduceToNat, Int.reduceAdd, Int.reduceSub, Int.reduceMul, Int.reduceNeg, Int.reduceLT, Int.reduceLE, Int.reduceEq, gd_t, gd_T, ↓bd_m, ↓lh_t, ↓on_m, ↓ec_m, ↓reduceIte, if_true, if_false, true_and, and_true, false_and, and_false, true_or, or_true, false_or, or_false, Bool.false_eq_true, b2i_0, b2i_1, bl_0, bl_1, bl_b2, not_true_eq_false, not_false_eq_true, F_X0_above, F_X1_above, B_X1_above_35, B_X1_above_36, B_X0_above_21, F_X8_above, F_X8_learnFault, B_X8_learnFault_35, B_X8_above_14, B_X8_above_39, cs.k, e1, hi, hi2, right_f gr, ts0.k, e2, hw, hw2, hK_wI, hI5, Nat.reduceEqDiff]
        exact Ok2.some (r.bad _ (by decide))
    · rw [b2_f q1] at hw hi
      simp (disch := omega) only [i_lit, i_neg, i_add, i_sub, i_mul, i_ofNat, i_div, i_le, i_lt, i_eq, i_ix, i_inb, i_max, i_min, e_rem, j_lit, j_i, Int.reduceToNat, Int.reduceAdd, Int.reduceSub, Int.reduceMul, Int.reduceNeg, Int.reduceLT, Int.reduceLE, Int.reduceEq, gd_t, gd_T, ↓bd_m, ↓lh_t, ↓on_m, ↓ec_m, ↓reduceIte, if_true, if_false, true_and, and_true, false_and, and_false, true_or, or_true, false_or, or_false, Bool.false_eq_true, b2i_0, b2i_1, bl_0, bl_1, bl_b2, not_true_eq_false, not_false_eq_true, F_X0_above, F_X1_above, B_X1_above_35, B_X1_above_36, B_X0_above_21, F_X8_above, F_X8_learnFault, B_X8_learnFault_35, B_X8_above_14, B_X8_above_39, cs.k, e1, hi, right_f gr, ts0.k, e2, hw, hK_wI, hI5, Nat.reduceEqDiff]
      exact Ok2.some (r.bad1 _ (by decide))
  · have e2 := e2 hT r.tn
    simp (disch := omega) only [i_lit, i_neg, i_add, i_sub, i_mul, i_ofNat, i_div, i_le, i_lt, i_eq, i_ix, i_inb, i_max, i_min, e_rem, j_lit, j_i, Int.reduceToNat, Int.reduceAdd, Int.reduceSub, Int.reduceMul, Int.reduceNeg, Int.reduceLT, Int.reduceLE, Int.reduceEq, gd_t, gd_T, ↓bd_m, ↓lh_t, ↓on_m, ↓ec_m, ↓reduceIte, if_true, if_false, true_and, and_true, false_and, and_false, true_or, or_true, false_or, or_false, Bool.false_eq_true, b2i_0, b2i_1, bl_0, bl_1, bl_b2, not_true_eq_false, not_false_eq_true, F_X0_above, F_X1_above, B_X0_above_17, F_X8_above, F_X8_learnFault, B_X8_learnFault_35, B_X8_above_14, B_X8_above_39, cs.k, e1, ts0.k, e2, hK_wI, hI5, Nat.reduceEqDiff]
    exact Ok2.some (r.bad1 _ (by decide))
  · have e2 := e2 hT r.tn
    simp (disch := omega) only [i_lit, i_neg, i_add, i_sub, i_mul, i_ofNat, i_div, i_le, i_lt, i_eq, i_ix, i_inb, i_max, i_min, e_rem, j_lit, j_i, Int.reduceToNat, Int.reduceAdd, Int.reduceSub, Int.reduceMul, Int.reduceNeg, Int.reduceLT, Int.reduceLE, Int.reduceEq, gd_t, gd_T, ↓bd_m, ↓lh_t, ↓on_m, ↓ec_m, ↓reduceIte, if_true, if_false, true_and, and_true, false_and, and_false, true_or, or_true, false_or, or_false, Bool.false_eq_true, b2i_0, b2i_1, bl_0, bl_1, bl_b2, not_true_eq_false, not_false_eq_true, F_X0_above, F_X1_above, B_X0_above_21, F_X8_above, F_X8_learnFault, B_X8_learnFault_35, B_X8_above_14, B_X8_above_39, cs.k, e1, ts0.k, e2, hK_wI, hI5, Nat.reduceEqDiff]
    exact Ok2.some (r.bad1 _ (by decide))
