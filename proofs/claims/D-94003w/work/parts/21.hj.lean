/-! PURE HJ: fill -/
set_option maxRecDepth 100000
def encP (b : Int) : Int := if b = -1 then 1000000 else b
theorem fillC {h : AH} {z t row n tank : Nat} {N : Nat → Int} (Y : TY h z t row n N) (hr : ¬ FP z row) (hN : ∀ k, k < n → 0 ≤ N k ∧ N k ≤ 99) (ht : 1 ≤ tank ∧ tank ≤ 12) (f day : Int32) {E : Option (ER Int32) → Prop} (H : ∀ g', tf (FP z) h g' → ptC g' z n tank N 0 → E (B_X1_fill_192 g' z f day (z + 440 + t) (iI n))) : E (G_X1_fill_71 h z (iI tank) f day (z + 440 + t) (iI n) (iI 0)) := by
  have n28 := Y.2.2.2.2.2.1
  unfold G_X1_fill_71
  refine lp_end (E := E) (fun s k => ∃ (g : AH) (i : Nat), s = (g, z, iI tank, f, day, z + 440 + t, iI n, iI i) ∧ i ≤ tank + 1 ∧ k = tank + 1 - i ∧ tf (FP z) h g ∧ ∀ i', i' < i → hI g (z + 445 + n) i' = iI 0) ?_ fuel (tank + 1) _ ⟨h, 0, rfl, by omega, by omega, tf.rfl, fun i' hi' => by omega⟩ (lt_fuel (by omega))
  rintro self s k ⟨g, i, rfl, h1, rfl, T1, f1⟩ ih
  have cs := (Y.fr hr T1).1
  unfold L_X1_fill_71
  by_cases ho : (tank : Int) < (i : Int)
  · simp (disch := omega) only [i_lit, i_neg, i_add, i_sub, i_mul, i_ofNat, i_div, i_le, i_lt, i_eq, i_ix, i_inb, i_max, i_min, e_rem, j_lit, j_i, Int.reduceToNat, Int.reduceAdd, Int.reduceSub, Int.reduceMul, Int.reduceNeg, Int.reduceLT, Int.reduceLE, Int.reduceEq, gd_t, gd_T, ↓bd_m, ↓lh_t, ↓on_m, ↓ec_m, ↓reduceIte, if_true, if_false, true_and, and_true, false_and, and_false, true_or, or_true, false_or, or_false, Bool.false_eq_true, b2i_0, b2i_1, bl_0, bl_1, bl_b2, not_true_eq_false, not_false_eq_true, B_X1_fill_71, B_X1_fill_94, ho]
    clear ih
    have P0 : ptC g z n tank N n := fun d' i' h1 h2 h3 => by
      rw [show d' = n by omega, show n - n = 0 by omega]
      exact f1 i' (by omega)
    clear f1 cs
    unfold G_X1_fill_100
    refine lp_end (E := E) (fun s k => ∃ (g : AH) (d : Nat), s = (g, z, iI tank, f, day, z + 440 + t, iI n, iI ((d : Int) - 1)) ∧ d ≤ n ∧ k = d ∧ tf (FP z) h g ∧ ptC g z n tank N d) ?_ fuel n _ ⟨g, n, rfl, by omega, rfl, T1, P0⟩ (lt_fuel (by omega))
    clear T1 P0
    rintro self s k ⟨g, d, rfl, h1, hkd, T1, P1⟩ ih
    unfold L_X1_fill_100
    by_cases hd0 : d = 0
    · subst hd0
      simp (disch := omega) only [i_lit, i_neg, i_add, i_sub, i_mul, i_ofNat, i_div, i_le, i_lt, i_eq, i_ix, i_inb, i_max, i_min, e_rem, j_lit, j_i, Int.reduceToNat, Int.reduceAdd, Int.reduceSub, Int.reduceMul, Int.reduceNeg, Int.reduceLT, Int.reduceLE, Int.reduceEq, gd_t, gd_T, ↓bd_m, ↓lh_t, ↓on_m, ↓ec_m, ↓reduceIte, if_true, if_false, true_and, and_true, false_and, and_false, true_or, or_true, false_or, or_false, Bool.false_eq_true, b2i_0, b2i_1, bl_0, bl_1, bl_b2, not_true_eq_false, not_false_eq_true, B_X1_fill_100, Int.natCast_zero]
      exact H g T1 P1
    · obtain ⟨d, rfl⟩ : ∃ d', d = d' + 1 := ⟨d - 1, by omega⟩
      have e0 : (((d + 1 : Nat)) : Int) - 1 = (d : Int) := by omega
      have ng : ((d : Int) < 0) = False := eq_false (by omega)
      simp (disch := omega) only [i_lit, i_neg, i_add, i_sub, i_mul, i_ofNat, i_div, i_le, i_lt, i_eq, i_ix, i_inb, i_max, i_min, e_rem, j_lit, j_i, Int.reduceToNat, Int.reduceAdd, Int.reduceSub, Int.reduceMul, Int.reduceNeg, Int.reduceLT, Int.reduceLE, Int.reduceEq, gd_t, gd_T, ↓bd_m, ↓lh_t, ↓on_m, ↓ec_m, ↓reduceIte, if_true, if_false, true_and, and_true, false_and, and_false, true_or, or_true, false_or, or_false, Bool.false_eq_true, b2i_0, b2i_1, bl_0, bl_1, bl_b2, not_true_eq_false, not_false_eq_true, B_X1_fill_100, e0, ng]
      have ih' := fun g' a1 a2 => ih (g', z, iI tank, f, day, z + 440 + t, iI n, iI ((d : Int) - 1)) d (by omega) ⟨g', d, rfl, by omega, rfl, a1, a2⟩
      clear ih
      have FD : FP z (z + 445 + d) := by unfold FP; omega
      unfold G_X1_fill_108
      refine lp_end (E := E) (fun s k => ∃ (g : AH) (i : Nat), s = (g, z, iI tank, f, day, z + 440 + t, iI n, iI d, iI i) ∧ i ≤ tank + 1 ∧ k = tank + 1 - i ∧ tf (FP z) h g ∧ ptC g z n tank N (d + 1) ∧ ∀ i', i' < i → hI g (z + 445 + d) i' = iI (pdS N n tank (n - d) i')) ?_ fuel (tank + 1) _ ⟨g, 0, rfl, by omega, by omega, T1, P1, fun i' hi' => by omega⟩ (lt_fuel (by omega))
      clear T1 P1
      rintro self s k ⟨g, i, rfl, h2, rfl, T1, P1, f1⟩ ih
      have cs := (Y.fr hr T1).1
      unfold L_X1_fill_108
      by_cases hi : (tank : Int) < (i : Int)
      · simp (disch := omega) only [i_lit, i_neg, i_add, i_sub, i_mul, i_ofNat, i_div, i_le, i_lt, i_eq, i_ix, i_inb, i_max, i_min, e_rem, j_lit, j_i, Int.reduceToNat, Int.reduceAdd, Int.reduceSub, Int.reduceMul, Int.reduceNeg, Int.reduceLT, Int.reduceLE, Int.reduceEq, gd_t, gd_T, ↓bd_m, ↓lh_t, ↓on_m, ↓ec_m, ↓reduceIte, if_true, if_false, true_and, and_true, false_and, and_false, true_or, or_true, false_or, or_false, Bool.false_eq_true, b2i_0, b2i_1, bl_0, bl_1, bl_b2, not_true_eq_false, not_false_eq_true, B_X1_fill_108, B_X1_fill_186, hi]
        rw [← Int.sub_eq_add_neg]
        refine ih' g T1 (fun d' i' q1 q2 q3 => ?_)
        by_cases q : d' = d
        · subst q; exact f1 i' (by omega)
        · exact P1 d' i' (by omega) q2 q3
      · have w := cs.w444 d (by omega)
        simp (disch := omega) only [i_lit, i_neg, i_add, i_sub, i_mul, i_ofNat, i_div, i_le, i_lt, i_eq, i_ix, i_inb, i_max, i_min, e_rem, j_lit, j_i, Int.reduceToNat, Int.reduceAdd, Int.reduceSub, Int.reduceMul, Int.reduceNeg, Int.reduceLT, Int.reduceLE, Int.reduceEq, gd_t, gd_T, ↓bd_m, ↓on_m, ↓ec_m, ↓reduceIte, if_true, if_false, true_and, and_true, false_and, and_false, true_or, or_true, false_or, or_false, Bool.false_eq_true, b2i_0, b2i_1, bl_0, bl_1, bl_b2, not_true_eq_false, not_false_eq_true, B_X1_fill_108, hi, cs.k, cs.r444, cs.k444, cs.l444, w.1, w.2.1, w.2.2, Int.toNat_natCast]
        refine fwE T1 FD (fun g2 T2 u2 d2 _ => ?_)
        unfold B_X1_fill_127 G_X1_fill_130
        have nj : n - d = (n - (d + 1)) + 1 := by omega
        have ed : n - 1 - (n - (d + 1)) = d := by omega
        have P2 : ptC g2 z n tank N (d + 1) := fun d' i' q1 q2 q3 => by rw [d2 _ _ (by omega)]; exact P1 d' i' q1 q2 q3
        have f2 : ∀ i', i' < i → hI g2 (z + 445 + d) i' = iI (pdS N n tank (n - d) i') := fun i' hi' => by rw [d2 _ _ (by omega)]; exact f1 i' hi'
        have st : itr (pdF N d (pdS N n tank (n - (d + 1))) i) (tank + 1 - max 1 i) (max 1 i) (-1) = pdS N n tank (n - d) i := by rw [nj]; show _ = itr _ _ _ _; rw [ed]
        refine lp_end (E := E) (fun s k => ∃ (g : AH) (b : Int) (mo : Nat), s = (g, z, iI tank, f, day, z + 440 + t, iI n, iI d, iI i, iI mo) ∧ i + mo ≤ tank + 1 ∧ k = tank + 1 - (i + mo) ∧ tf (FP z) h g ∧ ptC g z n tank N (d + 1) ∧ (∀ i', i' < i → hI g (z + 445 + d) i' = iI (pdS N n tank (n - d) i')) ∧ hI g (z + 445 + d) i = iI (encP b) ∧ (b = -1 ∨ (0 ≤ b ∧ b ≤ 40000)) ∧ ((i + mo = 0 ∧ b = -1) ∨ (max 1 i ≤ i + mo ∧ itr (pdF N d (pdS N n tank (n - (d + 1))) i) (tank + 1 - (i + mo)) (i + mo) b = pdS N n tank (n - d) i))) ?_ fuel (tank + 1 - i) _ ⟨g2, -1, 0, rfl, by omega, by omega, T2, P2, f2, by rw [u2]; rfl, Or.inl rfl, ?_⟩ (lt_fuel (by omega))
        · clear T1 P1 f1 T2 P2 f2 u2 d2 cs w
          rintro self3 s k ⟨g, b, mo, rfl, k1, rfl, T1, P1, f1, u1, k4, k5⟩ ih3
          have Yg := Y.fr hr T1
          have cs := Yg.1
          unfold L_X1_fill_130
          by_cases hto : (tank : Int) < (i : Int) + (mo : Int)
          · have k5 : b = pdS N n tank (n - d) i := by
              rcases k5 with k5 | k5
              · omega
              · have := k5.2
                rw [show tank + 1 - (i + mo) = 0 by omega] at this
                exact this
            have bn : b ≠ -1 := by
              have := pdS_b hN ht (n - d) (by omega) i (by omega)
              omega
            have nx := ih (g, z, iI tank, f, day, z + 440 + t, iI n, iI d, iI ((i + 1 : Nat) : Int)) (tank + 1 - (i + 1)) (by omega) ⟨g, i + 1, rfl, by omega, rfl, T1, P1, fun i' hi' => ?_⟩
            · rw [show (((i + 1 : Nat)) : Int) = (i : Int) + 1 by omega] at nx
              simp (disch := omega) only [i_lit, i_neg, i_add, i_sub, i_mul, i_ofNat, i_div, i_le, i_lt, i_eq, i_ix, i_inb, i_max, i_min, e_rem, j_lit, j_i, Int.reduceToNat, Int.reduceAdd, Int.reduceSub, Int.reduceMul, Int.reduceNeg, Int.reduceLT, Int.reduceLE, Int.reduceEq, gd_t, gd_T, ↓bd_m, ↓lh_t, ↓on_m, ↓ec_m, ↓reduceIte, if_true, if_false, true_and, and_true, false_and, and_false, true_or, or_true, false_or, or_false, Bool.false_eq_true, b2i_0, b2i_1, bl_0, bl_1, bl_b2, not_true_eq_false, not_false_eq_true, B_X1_fill_130, B_X1_fill_180, hto]
              exact nx
            · by_cases q : i' = i
              · subst q
                rw [u1, ← k5]
                unfold encP
                rw [if_neg bn]
              · exact f1 i' (by omega)
          · have w := cs.w444 d (by omega)
            have w1 := cs.w444 (d + 1) (by omega)
            have hNd := hN d (by omega)
            have y1 : ((d : Int) + 1).toNat = d + 1 := by omega
            have eb : 0 ≤ encP b ∧ encP b ≤ 1000000 := by unfold encP; split <;> omega
            rcases k5 with ⟨k5, k6⟩ | ⟨k5, k6⟩
            · have i0 : i = 0 := by omega
              have m0 : mo = 0 := by omega
              subst i0 m0
              have pb : F_X1_paidBy g z (z + 440 + t) (iI d) (iI 0) (iI 0) = some (.inl (iI 1000000, g)) := by
                simp (disch := omega) only [i_lit, i_neg, i_add, i_sub, i_mul, i_ofNat, i_div, i_le, i_lt, i_eq, i_ix, i_inb, i_max, i_min, e_rem, j_lit, j_i, Int.reduceToNat, Int.reduceAdd, Int.reduceSub, Int.reduceMul, Int.reduceNeg, Int.reduceLT, Int.reduceLE, Int.reduceEq, gd_t, gd_T, ↓bd_m, ↓lh_t, ↓on_m, ↓ec_m, ↓reduceIte, if_true, if_false, true_and, and_true, false_and, and_false, true_or, or_true, false_or, or_false, Bool.false_eq_true, b2i_0, b2i_1, bl_0, bl_1, bl_b2, not_true_eq_false, not_false_eq_true, F_X1_paidBy, B_X1_paidBy_40]
              have e1 : encP b = 1000000 := by rw [k6]; rfl
              rw [e1] at u1
              have t0F : ((tank : Int) < 0) = False := eq_false (by omega)
              rw [Int.natCast_zero] at ih3 ⊢
              simp (disch := omega) only [i_lit, i_neg, i_add, i_sub, i_mul, i_ofNat, i_div, i_le, i_lt, i_eq, i_ix, i_inb, i_max, i_min, e_rem, j_lit, j_i, Int.reduceToNat, Int.reduceAdd, Int.reduceSub, Int.reduceMul, Int.reduceNeg, Int.reduceLT, Int.reduceLE, Int.reduceEq, gd_t, gd_T, ↓bd_m, ↓on_m, ↓ec_m, ↓reduceIte, if_true, if_false, true_and, and_true, false_and, and_false, true_or, or_true, false_or, or_false, Bool.false_eq_true, b2i_0, b2i_1, bl_0, bl_1, bl_b2, not_true_eq_false, not_false_eq_true, B_X1_fill_130, t0F, cs.k, cs.r444, cs.k444, cs.l444, w.1, w.2.1, w.2.2, pb, u1, Int.toNat_natCast, Int.toNat_zero]
              refine fwE T1 FD (fun g3 T3 u3 d3 _ => ?_)
              have nx := ih3 (g3, z, iI tank, f, day, z + 440 + t, iI n, iI d, iI 0, iI ((0 + 1 : Nat) : Int)) (tank + 1 - (0 + (0 + 1))) (by omega) ⟨g3, -1, 0 + 1, rfl, by omega, rfl, T3, fun d' i' q1 q2 q3 => by rw [d3 _ _ (by omega)]; exact P1 d' i' q1 q2 q3, fun i' hi' => by omega, by rw [u3]; rfl, Or.inl rfl, Or.inr ⟨by omega, st⟩⟩
              simp (disch := omega) only [i_lit, i_neg, i_add, i_sub, i_mul, i_ofNat, i_div, i_le, i_lt, i_eq, i_ix, i_inb, i_max, i_min, e_rem, j_lit, j_i, Int.reduceToNat, Int.reduceAdd, Int.reduceSub, Int.reduceMul, Int.reduceNeg, Int.reduceLT, Int.reduceLE, Int.reduceEq, gd_t, gd_T, ↓bd_m, ↓lh_t, ↓on_m, ↓ec_m, ↓reduceIte, if_true, if_false, true_and, and_true, false_and, and_false, true_or, or_true, false_or, or_false, Bool.false_eq_true, b2i_0, b2i_1, bl_0, bl_1, bl_b2, not_true_eq_false, not_false_eq_true, B_X1_fill_174]
              exact nx
            · have pv := P1 (d + 1) (i + mo - 1) (by omega) (by omega) (by omega)
              have pb := pdS_b hN ht (n - (d + 1)) (by omega) (i + mo - 1) (by omega)
              have mb := mul_c (a := (mo : Int)) (b := N d) (by omega) hNd
              have nj28 : ((n - (d + 1) : Nat) : Int) ≤ 28 := by omega
              have y2 : ((i : Int) + (mo : Int) - 1).toNat = i + mo - 1 := by omega
              have ge : (0 ≤ (i : Int) + (mo : Int) - 1) = True := eq_true (by omega)
              have V : pdV N d (pdS N n tank (n - (d + 1))) i (i + mo) = (mo : Int) * N d + pdS N n tank (n - (d + 1)) (i + mo - 1) := by
                unfold pdV
                rw [show ((i + mo : Nat) : Int) - (i : Int) = (mo : Int) by omega]
              rw [show tank + 1 - (i + mo) = (tank + 1 - (i + (mo + 1))) + 1 by omega, itr] at k6
              have bF : encP (pdF N d (pdS N n tank (n - (d + 1))) i (i + mo) b) = min (encP b) ((mo : Int) * N d + pdS N n tank (n - (d + 1)) (i + mo - 1)) ∧ 0 ≤ pdF N d (pdS N n tank (n - (d + 1))) i (i + mo) b ∧ pdF N d (pdS N n tank (n - (d + 1))) i (i + mo) b ≤ 40000 := by
                unfold pdF
                rw [V]
                unfold encP
                by_cases q1 : b = -1
                · rw [if_pos q1, if_pos q1, if_neg (by omega)]; omega
                · rw [if_neg q1, if_neg q1]
                  by_cases q2 : b ≤ (mo : Int) * N d + pdS N n tank (n - (d + 1)) (i + mo - 1)
                  · rw [if_pos q2, if_neg q1]; omega
                  · rw [if_neg q2, if_neg (by omega)]; omega
              have pe : F_X1_paidBy g z (z + 440 + t) (iI d) (iI i) (iI mo) = some (.inl (iI ((mo : Int) * N d + pdS N n tank (n - (d + 1)) (i + mo - 1)), g)) := by
                simp (disch := omega) only [i_lit, i_neg, i_add, i_sub, i_mul, i_ofNat, i_div, i_le, i_lt, i_eq, i_ix, i_inb, i_max, i_min, e_rem, j_lit, j_i, Int.reduceToNat, Int.reduceAdd, Int.reduceSub, Int.reduceMul, Int.reduceNeg, Int.reduceLT, Int.reduceLE, Int.reduceEq, gd_t, gd_T, ↓bd_m, ↓lh_t, ↓on_m, ↓ec_m, ↓reduceIte, if_true, if_false, true_and, and_true, false_and, and_false, true_or, or_true, false_or, or_false, Bool.false_eq_true, b2i_0, b2i_1, bl_0, bl_1, bl_b2, not_true_eq_false, not_false_eq_true, F_X1_paidBy, B_X1_paidBy_40, ge, Yg.k, Yg.at (show d < n by omega), cs.k, cs.r444, cs.k444, cs.l444, y1, w1.1, w1.2.1, w1.2.2, y2, pv, j_i32]
              simp (disch := omega) only [i_lit, i_neg, i_add, i_sub, i_mul, i_ofNat, i_div, i_le, i_lt, i_eq, i_ix, i_inb, i_max, i_min, e_rem, j_lit, j_i, Int.reduceToNat, Int.reduceAdd, Int.reduceSub, Int.reduceMul, Int.reduceNeg, Int.reduceLT, Int.reduceLE, Int.reduceEq, gd_t, gd_T, ↓bd_m, ↓on_m, ↓ec_m, ↓reduceIte, if_true, if_false, true_and, and_true, false_and, and_false, true_or, or_true, false_or, or_false, Bool.false_eq_true, b2i_0, b2i_1, bl_0, bl_1, bl_b2, not_true_eq_false, not_false_eq_true, B_X1_fill_130, hto, cs.k, cs.r444, cs.k444, cs.l444, w.1, w.2.1, w.2.2, pe, u1, Int.toNat_natCast]
              refine fwE T1 FD (fun g3 T3 u3 d3 _ => ?_)
              have nx := ih3 (g3, z, iI tank, f, day, z + 440 + t, iI n, iI d, iI i, iI ((mo + 1 : Nat) : Int)) (tank + 1 - (i + (mo + 1))) (by omega) ⟨g3, pdF N d (pdS N n tank (n - (d + 1))) i (i + mo) b, mo + 1, rfl, by omega, rfl, T3, fun d' i' q1 q2 q3 => by rw [d3 _ _ (by omega)]; exact P1 d' i' q1 q2 q3, fun i' hi' => by rw [d3 _ _ (by omega)]; exact f1 i' hi', by rw [u3, bF.1], Or.inr bF.2, Or.inr ⟨by omega, k6⟩⟩
              rw [show (((mo + 1 : Nat)) : Int) = (mo : Int) + 1 by omega] at nx
              simp (disch := omega) only [i_lit, i_neg, i_add, i_sub, i_mul, i_ofNat, i_div, i_le, i_lt, i_eq, i_ix, i_inb, i_max, i_min, e_rem, j_lit, j_i, Int.reduceToNat, Int.reduceAdd, Int.reduceSub, Int.reduceMul, Int.reduceNeg, Int.reduceLT, Int.reduceLE, Int.reduceEq, gd_t, gd_T, ↓bd_m, ↓lh_t, ↓on_m, ↓ec_m, ↓reduceIte, if_true, if_false, true_and, and_true, false_and, and_false, true_or, or_true, false_or, or_false, Bool.false_eq_true, b2i_0, b2i_1, bl_0, bl_1, bl_b2, not_true_eq_false, not_false_eq_true, B_X1_fill_174]
              exact nx
        · by_cases q : i = 0
          · exact Or.inl ⟨by omega, rfl⟩
          · refine Or.inr ⟨by omega, ?_⟩
            rw [show i + 0 = max 1 i by omega]
            exact st
  · have w := cs.w444 n (by omega)
    have FD : FP z (z + 445 + n) := by unfold FP; omega
    simp (disch := omega) only [i_lit, i_neg, i_add, i_sub, i_mul, i_ofNat, i_div, i_le, i_lt, i_eq, i_ix, i_inb, i_max, i_min, e_rem, j_lit, j_i, Int.reduceToNat, Int.reduceAdd, Int.reduceSub, Int.reduceMul, Int.reduceNeg, Int.reduceLT, Int.reduceLE, Int.reduceEq, gd_t, gd_T, ↓bd_m, ↓on_m, ↓ec_m, ↓reduceIte, if_true, if_false, true_and, and_true, false_and, and_false, true_or, or_true, false_or, or_false, Bool.false_eq_true, b2i_0, b2i_1, bl_0, bl_1, bl_b2, not_true_eq_false, not_false_eq_true, B_X1_fill_71, ho, cs.k, cs.r444, cs.k444, cs.l444, w.1, w.2.1, w.2.2, Int.toNat_natCast]
    refine fwE T1 FD (fun g2 T2 u2 d2 _ => ?_)
    have nx := ih (g2, z, iI tank, f, day, z + 440 + t, iI n, iI ((i + 1 : Nat) : Int)) (tank + 1 - (i + 1)) (by omega) ⟨g2, i + 1, rfl, by omega, rfl, T2, fun i' hi' => ?_⟩
    · rw [show (((i + 1 : Nat)) : Int) = (i : Int) + 1 by omega] at nx
      simp (disch := omega) only [i_lit, i_neg, i_add, i_sub, i_mul, i_ofNat, i_div, i_le, i_lt, i_eq, i_ix, i_inb, i_max, i_min, e_rem, j_lit, j_i, Int.reduceToNat, Int.reduceAdd, Int.reduceSub, Int.reduceMul, Int.reduceNeg, Int.reduceLT, Int.reduceLE, Int.reduceEq, gd_t, gd_T, ↓bd_m, ↓lh_t, ↓on_m, ↓ec_m, ↓reduceIte, if_true, if_false, true_and, and_true, false_and, and_false, true_or, or_true, false_or, or_false, Bool.false_eq_true, b2i_0, b2i_1, bl_0, bl_1, bl_b2, not_true_eq_false, not_false_eq_true, B_X1_fill_88]
      exact nx
    · by_cases q : i' = i
      · subst q; exact u2
      · rw [d2 _ _ (by omega)]; exact f1 i' (by omega)
theorem least_ex {p : Nat → Prop} : ∀ (k a b : Nat), b - a = k → (∃ t, a ≤ t ∧ t ≤ b ∧ p t) → ∃ t, a ≤ t ∧ t ≤ b ∧ p t ∧ ∀ t', a ≤ t' → t' < t → ¬ p t' := by
  intro k
  induction k with
  | zero =>
    intro a b h ⟨t, h1, h2, h3⟩
    exact ⟨t, h1, h2, h3, fun t' q1 q2 => by omega⟩
  | succ k ih =>
    intro a b h ⟨t, h1, h2, h3⟩
    by_cases q : p a
    · exact ⟨a, by omega, by omega, q, fun t' q1 q2 => by omega⟩
    · have : a ≠ t := fun w => q (by rw [w]; exact h3)
      obtain ⟨t2, w1, w2, w3, w4⟩ := ih (a + 1) b (by omega) ⟨t, by omega, h2, h3⟩
      refine ⟨t2, by omega, w2, w3, fun t' q1 q2 => ?_⟩
      by_cases u : t' = a
      · rw [u]; exact q
      · exact w4 t' (by omega) q2
/-- the walk through the days -/
theorem fill_walk {h g : AH} {z m t row n tank : Nat} {N : Nat → Int} (Y : TY h z t row n N) (Z : TZ g m t n N) (hN : ∀ k, k < n → 0 ≤ N k ∧ N k ≤ 99) (ht : 1 ≤ tank ∧ tank ≤ 12) (PC : ptC h z n tank N 0) (PT : ptT g m n tank N 0) {day : Nat} (hd : day < n) : ∀ (k d has n1 n2 : Nat) (xm : Int32), d + k = day → has ≤ tank → k + 2 ≤ n1 → k + 1 ≤ n2 → ∃ w : Nat, w ≤ 12 ∧ lp (L_X1_fill_233 h) n1 (h, z, iI day, z + 440 + t, iI (if d = 0 then (has : Int) else (has : Int) + 1), xm, iI d) = some (.inl (iI w, h)) ∧ lp (L_X8_fill_166 g) n2 (g, m, iI t, iI day, iI has, iI d) = some (iI w, g) := by
  have n28 := Y.2.2.2.2.2.1
  have t4 := Y.2.1
  have cs := Y.1
  have ts := Z.1
  have srch : ∀ d, d < n → ∀ has, has ≤ tank → ∃ to, max 1 has ≤ to ∧ to ≤ tank ∧ has ≤ to ∧ (∀ (dy : Int32) (kh : AH → Nat → Int32 → Nat → Int32 → Int32 → Int32 → Option (ER Int32)) {E : Option (ER Int32) → Prop}, E (B_X1_fill_289 h kh z dy (z + 440 + t) (iI has) (iI ((to - has : Nat) : Int)) (iI d)) → E (G_X1_fill_258 h kh z dy (z + 440 + t) (iI has) (iI 0) (iI d))) ∧ (∀ (dy : Int32) (kh : AH → Nat → Int32 → Int32 → Int32 → Int32 → Option (Int32 × AH)) {E : Option (Int32 × AH) → Prop}, E (B_X8_fill_233 g kh m (iI t) dy (iI has) (iI d) (iI to)) → E (G_X8_fill_174 g kh m (iI t) dy (iI has) (iI d) (iI ((max 1 has : Nat) : Int)))) := by
    intro d hdn has hh
    have nj : n - d = (n - (d + 1)) + 1 := by omega
    have ed : n - 1 - (n - (d + 1)) = d := by omega
    have pC0 := PC d has (by omega) (by omega) hh
    have pT0 := PT d has (by omega) (by omega) hh
    have ex := pdS_e hN ht (j := n - (d + 1)) (by omega) hh
    rw [ed, ← nj] at ex
    have pb0 := pdS_b hN ht (n - d) (by omega) has hh
    generalize pdS N n tank (n - d) has = P at pC0 pT0 ex pb0
    obtain ⟨to, w1, w2, w3, w4⟩ := least_ex (p := fun to => P = pdV N d (pdS N n tank (n - (d + 1))) has to) _ (max 1 has) tank rfl ex
    have hNd := hN d hdn
    have wC := cs.w444 d (by omega)
    have wC1 := cs.w444 (d + 1) (by omega)
    have y1 : ((d : Int) + 1).toNat = d + 1 := by omega
    have nj28 : ((n - (d + 1) : Nat) : Int) ≤ 28 ∧ ((n - d : Nat) : Int) ≤ 28 := by omega
    -- what filling up to some pays
    have pe : ∀ mo : Nat, 1 ≤ has + mo → has + mo ≤ tank → F_X1_paidBy h z (z + 440 + t) (iI d) (iI has) (iI mo) = some (.inl (iI (pdV N d (pdS N n tank (n - (d + 1))) has (has + mo)), h)) ∧ 0 ≤ pdV N d (pdS N n tank (n - (d + 1))) has (has + mo) ∧ pdV N d (pdS N n tank (n - (d + 1))) has (has + mo) ≤ 40000 := by
      intro mo m1 m2
      have pv := PC (d + 1) (has + mo - 1) (by omega) (by omega) (by omega)
      have pb := pdS_b hN ht (n - (d + 1)) (by omega) (has + mo - 1) (by omega)
      have mb := mul_c (a := (mo : Int)) (b := N d) (by omega) hNd
      have y2 : ((has : Int) + (mo : Int) - 1).toNat = has + mo - 1 := by omega
      have ge : (0 ≤ (has : Int) + (mo : Int) - 1) = True := eq_true (by omega)
      have V : pdV N d (pdS N n tank (n - (d + 1))) has (has + mo) = (mo : Int) * N d + pdS N n tank (n - (d + 1)) (has + mo - 1) := by
        unfold pdV
        rw [show ((has + mo : Nat) : Int) - (has : Int) = (mo : Int) by omega]
      rw [V]
      refine ⟨?_, by omega, by omega⟩
      simp (disch := omega) only [i_lit, i_neg, i_add, i_sub, i_mul, i_ofNat, i_div, i_le, i_lt, i_eq, i_ix, i_inb, i_max, i_min, e_rem, j_lit, j_i, Int.reduceToNat, Int.reduceAdd, Int.reduceSub, Int.reduceMul, Int.reduceNeg, Int.reduceLT, Int.reduceLE, Int.reduceEq, gd_t, gd_T, ↓bd_m, ↓lh_t, ↓on_m, ↓ec_m, ↓reduceIte, if_true, if_false, true_and, and_true, false_and, and_false, true_or, or_true, false_or, or_false, Bool.false_eq_true, b2i_0, b2i_1, bl_0, bl_1, bl_b2, not_true_eq_false, not_false_eq_true, F_X1_paidBy, B_X1_paidBy_40, ge, Y.k, Y.at (show d < n by omega), cs.k, cs.r444, cs.k444, cs.l444, y1, wC1.1, wC1.2.1, wC1.2.2, y2, pv, j_i32]
    refine ⟨to, w1, w2, by omega, fun dy kh E HE => ?_, fun dy kh E HE => ?_⟩
    · unfold G_X1_fill_258
      refine lp_end (E := E) (fun s k => ∃ mo : Nat, s = (h, z, dy, z + 440 + t, iI has, iI mo, iI d) ∧ has + mo ≤ to ∧ k = to - (has + mo)) ?_ fuel (to - has) _ ⟨0, rfl, by omega, by omega⟩ (lt_fuel (by omega))
      rintro self s k ⟨mo, rfl, k1, rfl⟩ ih
      unfold L_X1_fill_258
      have nx : has + mo < to → E (self (h, z, dy, z + 440 + t, iI has, iI ((mo : Int) + 1), iI d)) := fun lt => by
        have := ih (h, z, dy, z + 440 + t, iI has, iI ((mo + 1 : Nat) : Int), iI d) (to - (has + (mo + 1))) (by omega) ⟨mo + 1, rfl, by omega, rfl⟩
        rw [show (((mo + 1 : Nat)) : Int) = (mo : Int) + 1 by omega] at this
        exact this
      by_cases q0 : has + mo = 0
      · have h0 : has = 0 := by omega
        have m0 : mo = 0 := by omega
        have pb : F_X1_paidBy h z (z + 440 + t) (iI d) (iI has) (iI mo) = some (.inl (iI 1000000, h)) := by
          rw [h0, m0]
          simp (disch := omega) only [i_lit, i_neg, i_add, i_sub, i_mul, i_ofNat, i_div, i_le, i_lt, i_eq, i_ix, i_inb, i_max, i_min, e_rem, j_lit, j_i, Int.reduceToNat, Int.reduceAdd, Int.reduceSub, Int.reduceMul, Int.reduceNeg, Int.reduceLT, Int.reduceLE, Int.reduceEq, gd_t, gd_T, ↓bd_m, ↓lh_t, ↓on_m, ↓ec_m, ↓reduceIte, if_true, if_false, true_and, and_true, false_and, and_false, true_or, or_true, false_or, or_false, Bool.false_eq_true, b2i_0, b2i_1, bl_0, bl_1, bl_b2, not_true_eq_false, not_false_eq_true, F_X1_paidBy, B_X1_paidBy_40, Int.natCast_zero]
        have nP : (1000000 = P) = False := eq_false (by omega)
        simp (disch := omega) only [i_lit, i_neg, i_add, i_sub, i_mul, i_ofNat, i_div, i_le, i_lt, i_eq, i_ix, i_inb, i_max, i_min, e_rem, j_lit, j_i, Int.reduceToNat, Int.reduceAdd, Int.reduceSub, Int.reduceMul, Int.reduceNeg, Int.reduceLT, Int.reduceLE, Int.reduceEq, gd_t, gd_T, ↓bd_m, ↓lh_t, ↓on_m, ↓ec_m, ↓reduceIte, if_true, if_false, true_and, and_true, false_and, and_false, true_or, or_true, false_or, or_false, Bool.false_eq_true, b2i_0, b2i_1, bl_0, bl_1, bl_b2, not_true_eq_false, not_false_eq_true, B_X1_fill_258, cs.k, pb, cs.r444, cs.k444, cs.l444, wC.1, wC.2.1, wC.2.2, pC0, nP, Int.toNat_natCast]
        exact nx (by omega)
      · obtain ⟨p1, p2, p3⟩ := pe mo (by omega) (by omega)
        by_cases q1 : has + mo = to
        · have eP : (pdV N d (pdS N n tank (n - (d + 1))) has (has + mo) = P) = True := eq_true (by rw [q1]; exact w3.symm)
          rw [show ((to - has : Nat) : Int) = (mo : Int) by omega] at HE
          simp (disch := omega) only [i_lit, i_neg, i_add, i_sub, i_mul, i_ofNat, i_div, i_le, i_lt, i_eq, i_ix, i_inb, i_max, i_min, e_rem, j_lit, j_i, Int.reduceToNat, Int.reduceAdd, Int.reduceSub, Int.reduceMul, Int.reduceNeg, Int.reduceLT, Int.reduceLE, Int.reduceEq, gd_t, gd_T, ↓bd_m, ↓lh_t, ↓on_m, ↓ec_m, ↓reduceIte, if_true, if_false, true_and, and_true, false_and, and_false, true_or, or_true, false_or, or_false, Bool.false_eq_true, b2i_0, b2i_1, bl_0, bl_1, bl_b2, not_true_eq_false, not_false_eq_true, B_X1_fill_258, cs.k, p1, cs.r444, cs.k444, cs.l444, wC.1, wC.2.1, wC.2.2, pC0, eP, Int.toNat_natCast]
          exact HE
        · have eP : (pdV N d (pdS N n tank (n - (d + 1))) has (has + mo) = P) = False := eq_false (fun u => w4 (has + mo) (by omega) (by omega) u.symm)
          simp (disch := omega) only [i_lit, i_neg, i_add, i_sub, i_mul, i_ofNat, i_div, i_le, i_lt, i_eq, i_ix, i_inb, i_max, i_min, e_rem, j_lit, j_i, Int.reduceToNat, Int.reduceAdd, Int.reduceSub, Int.reduceMul, Int.reduceNeg, Int.reduceLT, Int.reduceLE, Int.reduceEq, gd_t, gd_T, ↓bd_m, ↓lh_t, ↓on_m, ↓ec_m, ↓reduceIte, if_true, if_false, true_and, and_true, false_and, and_false, true_or, or_true, false_or, or_false, Bool.false_eq_true, b2i_0, b2i_1, bl_0, bl_1, bl_b2, not_true_eq_false, not_false_eq_true, B_X1_fill_258, cs.k, p1, cs.r444, cs.k444, cs.l444, wC.1, wC.2.1, wC.2.2, pC0, eP, Int.toNat_natCast]
          exact nx (by omega)
    · unfold G_X8_fill_174
      refine lp_end (E := E) (fun s k => ∃ u : Nat, s = (g, m, iI t, dy, iI has, iI d, iI u) ∧ max 1 has ≤ u ∧ u ≤ to ∧ k = to - u) ?_ fuel (to - max 1 has) _ ⟨max 1 has, rfl, by omega, by omega, by omega⟩ (lt_fuel (by omega))
      rintro self s k ⟨u, rfl, k1, k2, rfl⟩ ih
      have vN := Z.2.2.2.2.1 d hdn
      have pv := PT (d + 1) (u - 1) (by omega) (by omega) (by omega)
      have pb := pdS_b hN ht (n - (d + 1)) (by omega) (u - 1) (by omega)
      have mb := mul_c (a := (u : Int) - (has : Int)) (b := N d) (by omega) hNd
      have y2 : (28 * (t : Int) + (d : Int)).toNat = 28 * t + d := by omega
      have y3 : (13 * ((d : Int) + 1) + (u : Int) - 1).toNat = 13 * (d + 1) + (u - 1) := by omega
      have y4 : (13 * (d : Int) + (has : Int)).toNat = 13 * d + has := by omega
      have V : pdV N d (pdS N n tank (n - (d + 1))) has u = ((u : Int) - (has : Int)) * N d + pdS N n tank (n - (d + 1)) (u - 1) := rfl
      unfold L_X8_fill_174
      by_cases q1 : u = to
      · subst q1
        have eP : (((u : Int) - (has : Int)) * N d + pdS N n tank (n - (d + 1)) (u - 1) = P) = True := eq_true (by rw [← V]; exact w3.symm)
        simp (disch := omega) only [i_lit, i_neg, i_add, i_sub, i_mul, i_ofNat, i_div, i_le, i_lt, i_eq, i_ix, i_inb, i_max, i_min, e_rem, j_lit, j_i, Int.reduceToNat, Int.reduceAdd, Int.reduceSub, Int.reduceMul, Int.reduceNeg, Int.reduceLT, Int.reduceLE, Int.reduceEq, gd_t, gd_T, ↓bd_m, ↓lh_t, ↓on_m, ↓ec_m, ↓reduceIte, if_true, if_false, true_and, and_true, false_and, and_false, true_or, or_true, false_or, or_false, Bool.false_eq_true, b2i_0, b2i_1, bl_0, bl_1, bl_b2, not_true_eq_false, not_false_eq_true, B_X8_fill_174, ts.k, ts.r1, ts.k1, ts.l1, ts.r2, ts.k2, ts.l2, ts.r3, ts.k3, ts.l3, ts.r4, ts.k4, ts.l4, ts.r5, ts.k5, ts.l5, ts.r6, ts.k6, ts.l6, ts.r7, ts.k7, ts.l7, ts.r8, ts.k8, ts.l8, ts.r9, ts.k9, ts.l9, ts.r10, ts.k10, ts.l10, ts.r11, ts.k11, ts.l11, ts.r12, ts.k12, ts.l12, ts.r13, ts.k13, ts.l13, ts.r14, ts.k14, ts.l14, ts.r15, ts.k15, ts.l15, ts.r16, ts.k16, ts.l16, ts.r17, ts.k17, ts.l17, ts.r18, ts.k18, ts.l18, ts.r19, ts.k19, ts.l19, ts.r20, ts.k20, ts.l20, y2, y3, y4, vN, j_i32, pv, pT0, eP]
        exact HE
      · have eP : (((u : Int) - (has : Int)) * N d + pdS N n tank (n - (d + 1)) (u - 1) = P) = False := eq_false (fun w => w4 u k1 (by omega) (by rw [V]; exact w.symm))
        have nx := ih (g, m, iI t, dy, iI has, iI d, iI ((u + 1 : Nat) : Int)) (to - (u + 1)) (by omega) ⟨u + 1, rfl, by omega, by omega, rfl⟩
        rw [show (((u + 1 : Nat)) : Int) = (u : Int) + 1 by omega] at nx
        simp (disch := omega) only [i_lit, i_neg, i_add, i_sub, i_mul, i_ofNat, i_div, i_le, i_lt, i_eq, i_ix, i_inb, i_max, i_min, e_rem, j_lit, j_i, Int.reduceToNat, Int.reduceAdd, Int.reduceSub, Int.reduceMul, Int.reduceNeg, Int.reduceLT, Int.reduceLE, Int.reduceEq, gd_t, gd_T, ↓bd_m, ↓lh_t, ↓on_m, ↓ec_m, ↓reduceIte, if_true, if_false, true_and, and_true, false_and, and_false, true_or, or_true, false_or, or_false, Bool.false_eq_true, b2i_0, b2i_1, bl_0, bl_1, bl_b2, not_true_eq_false, not_false_eq_true, B_X8_fill_174, ts.k, ts.r1, ts.k1, ts.l1, ts.r2, ts.k2, ts.l2, ts.r3, ts.k3, ts.l3, ts.r4, ts.k4, ts.l4, ts.r5, ts.k5, ts.l5, ts.r6, ts.k6, ts.l6, ts.r7, ts.k7, ts.l7, ts.r8, ts.k8, ts.l8, ts.r9, ts.k9, ts.l9, ts.r10, ts.k10, ts.l10, ts.r11, ts.k11, ts.l11, ts.r12, ts.k12, ts.l12, ts.r13, ts.k13, ts.l13, ts.r14, ts.k14, ts.l14, ts.r15, ts.k15, ts.l15, ts.r16, ts.k16, ts.l16, ts.r17, ts.k17, ts.l17, ts.r18, ts.k18, ts.l18, ts.r19, ts.k19, ts.l19, ts.r20, ts.k20, ts.l20, y2, y3, y4, vN, j_i32, pv, pT0, eP]
        exact nx
  intro k
  induction k with
  | zero =>
    intro d has n1 n2 xm e1 hh h1 h2
    obtain ⟨a, rfl⟩ : ∃ a, n1 = a + 1 + 1 := ⟨n1 - 2, by omega⟩
    obtain ⟨b, rfl⟩ : ∃ b, n2 = b + 1 := ⟨n2 - 1, by omega⟩
    have e1 : d = day := by omega
    subst e1
    obtain ⟨to, w1, w2, w3, sC, sT⟩ := srch d (by omega) has hh
    refine ⟨to - has, by omega, ?_, ?_⟩
    · rw [lp_s]
      show B_X1_fill_233 h (fun h a0 x4 a5 x7 x8 x9 => lp (L_X1_fill_233 h) (a + 1) (h, a0, x4, a5, x7, x8, x9)) z (iI d) (z + 440 + t) (iI (if d = 0 then (has : Int) else (has : Int) + 1)) xm (iI d) = _
      have fin : B_X1_fill_289 h (fun h_1 a0 x4 a5 x7 x8 x9 => lp (L_X1_fill_233 h) (a + 1) (h_1, a0, x4, a5, x7, x8, x9)) z (iI d) (z + 440 + t) (iI has) (iI ((to - has : Nat) : Int)) (iI d) = some (.inl (iI ((to - has : Nat) : Int), h)) := by
        unfold B_X1_fill_289
        have q2 : ((d : Int) < (d : Int) + 1) = True := eq_true (by omega)
        show B_X1_fill_233 h (fun h_1 a0 x4 a5 x7 x8 x9 => lp (L_X1_fill_233 h) a (h_1, a0, x4, a5, x7, x8, x9)) z (iI d) (z + 440 + t) (iI has + iI ((to - has : Nat) : Int)) (iI ((to - has : Nat) : Int)) (iI d + 1) = _
        simp (disch := omega) only [i_lit, i_neg, i_add, i_sub, i_mul, i_ofNat, i_div, i_le, i_lt, i_eq, i_ix, i_inb, i_max, i_min, e_rem, j_lit, j_i, Int.reduceToNat, Int.reduceAdd, Int.reduceSub, Int.reduceMul, Int.reduceNeg, Int.reduceLT, Int.reduceLE, Int.reduceEq, gd_t, gd_T, ↓bd_m, ↓lh_t, ↓on_m, ↓ec_m, ↓reduceIte, if_true, if_false, true_and, and_true, false_and, and_false, true_or, or_true, false_or, or_false, Bool.false_eq_true, b2i_0, b2i_1, bl_0, bl_1, bl_b2, not_true_eq_false, not_false_eq_true, B_X1_fill_233, B_X1_fill_302, q2]
      have q1 : ((d : Int) < (d : Int)) = False := eq_false (by omega)
      by_cases d0 : d = 0
      · have dT : ((d : Int) = 0) = True := eq_true (by omega)
        rw [if_pos d0]
        simp (disch := omega) only [i_lit, i_neg, i_add, i_sub, i_mul, i_ofNat, i_div, i_le, i_lt, i_eq, i_ix, i_inb, i_max, i_min, e_rem, j_lit, j_i, Int.reduceToNat, Int.reduceAdd, Int.reduceSub, Int.reduceMul, Int.reduceNeg, Int.reduceLT, Int.reduceLE, Int.reduceEq, gd_t, gd_T, ↓bd_m, ↓lh_t, ↓on_m, ↓ec_m, ↓reduceIte, if_true, if_false, true_and, and_true, false_and, and_false, true_or, or_true, false_or, or_false, Bool.false_eq_true, b2i_0, b2i_1, bl_0, bl_1, bl_b2, not_true_eq_false, not_false_eq_true, B_X1_fill_233, B_X1_fill_252, q1, dT, Int.sub_zero]
        exact sC (iI d) _ (E := fun X => X = _) fin
      · have dT : ((d : Int) = 0) = False := eq_false (by omega)
        have e2 : (has : Int) + 1 - 1 = (has : Int) := by omega
        rw [if_neg d0]
        simp (disch := omega) only [i_lit, i_neg, i_add, i_sub, i_mul, i_ofNat, i_div, i_le, i_lt, i_eq, i_ix, i_inb, i_max, i_min, e_rem, j_lit, j_i, Int.reduceToNat, Int.reduceAdd, Int.reduceSub, Int.reduceMul, Int.reduceNeg, Int.reduceLT, Int.reduceLE, Int.reduceEq, gd_t, gd_T, ↓bd_m, ↓lh_t, ↓on_m, ↓ec_m, ↓reduceIte, if_true, if_false, true_and, and_true, false_and, and_false, true_or, or_true, false_or, or_false, Bool.false_eq_true, b2i_0, b2i_1, bl_0, bl_1, bl_b2, not_true_eq_false, not_false_eq_true, B_X1_fill_233, B_X1_fill_252, q1, dT, e2]
        exact sC (iI d) _ (E := fun X => X = _) fin
    · rw [lp_s]
      show B_X8_fill_166 g (fun h a0 x1 x4 x5 x6 => lp (L_X8_fill_166 g) b (h, a0, x1, x4, x5, x6)) m (iI t) (iI d) (iI has) (iI d) = _
      unfold B_X8_fill_166
      simp (disch := omega) only [i_lit, i_neg, i_add, i_sub, i_mul, i_ofNat, i_div, i_le, i_lt, i_eq, i_ix, i_inb, i_max, i_min, e_rem, j_lit, j_i, Int.reduceToNat, Int.reduceAdd, Int.reduceSub, Int.reduceMul, Int.reduceNeg, Int.reduceLT, Int.reduceLE, Int.reduceEq, gd_t, gd_T, ↓bd_m, ↓lh_t, ↓on_m, ↓ec_m, ↓reduceIte, if_true, if_false, true_and, and_true, false_and, and_false, true_or, or_true, false_or, or_false, Bool.false_eq_true, b2i_0, b2i_1, bl_0, bl_1, bl_b2, not_true_eq_false, not_false_eq_true]
      rw [show max 1 (has : Int) = ((max 1 has : Nat) : Int) by omega]
      refine sT (iI d) _ (E := fun X => X = _) ?_
      have e3 : ((to - has : Nat) : Int) = (to : Int) - (has : Int) := by omega
      rw [e3]
      simp (disch := omega) only [i_lit, i_neg, i_add, i_sub, i_mul, i_ofNat, i_div, i_le, i_lt, i_eq, i_ix, i_inb, i_max, i_min, e_rem, j_lit, j_i, Int.reduceToNat, Int.reduceAdd, Int.reduceSub, Int.reduceMul, Int.reduceNeg, Int.reduceLT, Int.reduceLE, Int.reduceEq, gd_t, gd_T, ↓bd_m, ↓lh_t, ↓on_m, ↓ec_m, ↓reduceIte, if_true, if_false, true_and, and_true, false_and, and_false, true_or, or_true, false_or, or_false, Bool.false_eq_true, b2i_0, b2i_1, bl_0, bl_1, bl_b2, not_true_eq_false, not_false_eq_true, B_X8_fill_233, B_X8_fill_240]
  | succ k ih =>
    intro d has n1 n2 xm e1 hh h1 h2
    obtain ⟨a, rfl⟩ : ∃ a, n1 = a + 1 := ⟨n1 - 1, by omega⟩
    obtain ⟨b, rfl⟩ : ∃ b, n2 = b + 1 := ⟨n2 - 1, by omega⟩
    obtain ⟨to, w1, w2, w3, sC, sT⟩ := srch d (by omega) has hh
    obtain ⟨w, v1, v2, v3⟩ := ih (d + 1) (to - 1) a b (iI ((to - has : Nat) : Int)) (by omega) (by omega) (by omega) (by omega)
    rw [if_neg (by omega), show ((to - 1 : Nat) : Int) + 1 = (has : Int) + ((to - has : Nat) : Int) by omega] at v2
    rw [show (((d + 1 : Nat)) : Int) = (d : Int) + 1 by omega] at v2 v3
    rw [show ((to - 1 : Nat) : Int) = (to : Int) - 1 by omega] at v3
    refine ⟨w, v1, ?_, ?_⟩
    · rw [lp_s]
      show B_X1_fill_233 h (fun h_1 a0 x4 a5 x7 x8 x9 => lp (L_X1_fill_233 h) a (h_1, a0, x4, a5, x7, x8, x9)) z (iI day) (z + 440 + t) (iI (if d = 0 then (has : Int) else (has : Int) + 1)) xm (iI d) = _
      have fin : B_X1_fill_289 h (fun h_1 a0 x4 a5 x7 x8 x9 => lp (L_X1_fill_233 h) a (h_1, a0, x4, a5, x7, x8, x9)) z (iI day) (z + 440 + t) (iI has) (iI ((to - has : Nat) : Int)) (iI d) = some (.inl (iI w, h)) := by
        simp (disch := omega) only [i_lit, i_neg, i_add, i_sub, i_mul, i_ofNat, i_div, i_le, i_lt, i_eq, i_ix, i_inb, i_max, i_min, e_rem, j_lit, j_i, Int.reduceToNat, Int.reduceAdd, Int.reduceSub, Int.reduceMul, Int.reduceNeg, Int.reduceLT, Int.reduceLE, Int.reduceEq, gd_t, gd_T, ↓bd_m, ↓lh_t, ↓on_m, ↓ec_m, ↓reduceIte, if_true, if_false, true_and, and_true, false_and, and_false, true_or, or_true, false_or, or_false, Bool.false_eq_true, b2i_0, b2i_1, bl_0, bl_1, bl_b2, not_true_eq_false, not_false_eq_true, B_X1_fill_289]
        exact v2
      have q1 : ((day : Int) < (d : Int)) = False := eq_false (by omega)
      by_cases d0 : d = 0
      · have dT : ((d : Int) = 0) = True := eq_true (by omega)
        rw [if_pos d0]
        simp (disch := omega) only [i_lit, i_neg, i_add, i_sub, i_mul, i_ofNat, i_div, i_le, i_lt, i_eq, i_ix, i_inb, i_max, i_min, e_rem, j_lit, j_i, Int.reduceToNat, Int.reduceAdd, Int.reduceSub, Int.reduceMul, Int.reduceNeg, Int.reduceLT, Int.reduceLE, Int.reduceEq, gd_t, gd_T, ↓bd_m, ↓lh_t, ↓on_m, ↓ec_m, ↓reduceIte, if_true, if_false, true_and, and_true, false_and, and_false, true_or, or_true, false_or, or_false, Bool.false_eq_true, b2i_0, b2i_1, bl_0, bl_1, bl_b2, not_true_eq_false, not_false_eq_true, B_X1_fill_233, B_X1_fill_252, q1, dT, Int.sub_zero]
        exact sC (iI day) _ (E := fun X => X = _) fin
      · have dT : ((d : Int) = 0) = False := eq_false (by omega)
        have e2 : (has : Int) + 1 - 1 = (has : Int) := by omega
        rw [if_neg d0]
        simp (disch := omega) only [i_lit, i_neg, i_add, i_sub, i_mul, i_ofNat, i_div, i_le, i_lt, i_eq, i_ix, i_inb, i_max, i_min, e_rem, j_lit, j_i, Int.reduceToNat, Int.reduceAdd, Int.reduceSub, Int.reduceMul, Int.reduceNeg, Int.reduceLT, Int.reduceLE, Int.reduceEq, gd_t, gd_T, ↓bd_m, ↓lh_t, ↓on_m, ↓ec_m, ↓reduceIte, if_true, if_false, true_and, and_true, false_and, and_false, true_or, or_true, false_or, or_false, Bool.false_eq_true, b2i_0, b2i_1, bl_0, bl_1, bl_b2, not_true_eq_false, not_false_eq_true, B_X1_fill_233, B_X1_fill_252, q1, dT, e2]
        exact sC (iI day) _ (E := fun X => X = _) fin
    · rw [lp_s]
      show B_X8_fill_166 g (fun h a0 x1 x4 x5 x6 => lp (L_X8_fill_166 g) b (h, a0, x1, x4, x5, x6)) m (iI t) (iI day) (iI has) (iI d) = _
      unfold B_X8_fill_166
      simp (disch := omega) only [i_lit, i_neg, i_add, i_sub, i_mul, i_ofNat, i_div, i_le, i_lt, i_eq, i_ix, i_inb, i_max, i_min, e_rem, j_lit, j_i, Int.reduceToNat, Int.reduceAdd, Int.reduceSub, Int.reduceMul, Int.reduceNeg, Int.reduceLT, Int.reduceLE, Int.reduceEq, gd_t, gd_T, ↓bd_m, ↓lh_t, ↓on_m, ↓ec_m, ↓reduceIte, if_true, if_false, true_and, and_true, false_and, and_false, true_or, or_true, false_or, or_false, Bool.false_eq_true, b2i_0, b2i_1, bl_0, bl_1, bl_b2, not_true_eq_false, not_false_eq_true]
      rw [show max 1 (has : Int) = ((max 1 has : Nat) : Int) by omega]
      refine sT (iI day) _ (E := fun X => X = _) ?_
      have q1 : ((d : Int) = (day : Int)) = False := eq_false (by omega)
      simp (disch := omega) only [i_lit, i_neg, i_add, i_sub, i_mul, i_ofNat, i_div, i_le, i_lt, i_eq, i_ix, i_inb, i_max, i_min, e_rem, j_lit, j_i, Int.reduceToNat, Int.reduceAdd, Int.reduceSub, Int.reduceMul, Int.reduceNeg, Int.reduceLT, Int.reduceLE, Int.reduceEq, gd_t, gd_T, ↓bd_m, ↓lh_t, ↓on_m, ↓ec_m, ↓reduceIte, if_true, if_false, true_and, and_true, false_and, and_false, true_or, or_true, false_or, or_false, Bool.false_eq_true, b2i_0, b2i_1, bl_0, bl_1, bl_b2, not_true_eq_false, not_false_eq_true, B_X8_fill_233, q1]
      exact v3
theorem within_T {g : AH} {m t n : Nat} {N : Nat → Int} (Z : TZ g m t n N) (a b c : Int32) {E : Option (Int32 × AH) → Prop} (H1 : allW n N 99 → E (B_X8_fill_120 g m (iI t) a b c)) (H2 : ¬ allW n N 99 → E (B_X8_fill_108 g m)) : E (G_X8_fill_75 g m (iI t) a b c (iI 0)) := by
  obtain ⟨ts, ht, z3, z4, z5, z6⟩ := Z
  unfold G_X8_fill_75
  refine lp_end (E := E) (fun st k => ∃ i : Nat, st = (g, m, iI t, a, b, c, iI i) ∧ i ≤ n ∧ k = n - i ∧ ∀ j, j < i → 0 ≤ N j ∧ N j ≤ 99) ?_ fuel n _ ⟨0, rfl, by omega, by omega, fun j hj => by omega⟩ (lt_fuel (by omega))
  rintro self st k ⟨i, rfl, h1, rfl, hP⟩ ih
  unfold L_X8_fill_75
  by_cases ho : (n : Int) ≤ (i : Int)
  · simp (disch := omega) only [i_lit, i_neg, i_add, i_sub, i_mul, i_ofNat, i_div, i_le, i_lt, i_eq, i_ix, i_inb, i_max, i_min, e_rem, j_lit, j_i, Int.reduceToNat, Int.reduceAdd, Int.reduceSub, Int.reduceMul, Int.reduceNeg, Int.reduceLT, Int.reduceLE, Int.reduceEq, gd_t, gd_T, ↓bd_m, ↓lh_t, ↓on_m, ↓ec_m, ↓reduceIte, if_true, if_false, true_and, and_true, false_and, and_false, true_or, or_true, false_or, or_false, Bool.false_eq_true, b2i_0, b2i_1, bl_0, bl_1, bl_b2, not_true_eq_false, not_false_eq_true, B_X8_fill_75, ts.k, ts.r1, ts.k1, ts.l1, ts.r2, ts.k2, ts.l2, ts.r3, ts.k3, ts.l3, ts.r4, ts.k4, ts.l4, ts.r5, ts.k5, ts.l5, ts.r6, ts.k6, ts.l6, ts.r7, ts.k7, ts.l7, ts.r8, ts.k8, ts.l8, ts.r9, ts.k9, ts.l9, ts.r10, ts.k10, ts.l10, ts.r11, ts.k11, ts.l11, ts.r12, ts.k12, ts.l12, ts.r13, ts.k13, ts.l13, ts.r14, ts.k14, ts.l14, ts.r15, ts.k15, ts.l15, ts.r16, ts.k16, ts.l16, ts.r17, ts.k17, ts.l17, ts.r18, ts.k18, ts.l18, ts.r19, ts.k19, ts.l19, ts.r20, ts.k20, ts.l20, z3, ho, Int.toNat_natCast]
    exact H1 (fun k hk => hP k (by omega))
  · have e1 := within_eq g (a := N i) (b := 0) (c := 99) (z6 i) (by omega) (by omega)
    have y : (28 * (t : Int) + (i : Int)).toNat = 28 * t + i := by omega
    have v := z5 i (by omega)
    by_cases q : 0 ≤ N i ∧ N i ≤ 99
    · rw [b2_t q] at e1
      have nx := ih (g, m, iI t, a, b, c, iI ((i + 1 : Nat) : Int)) (n - (i + 1)) (by omega) ⟨i + 1, rfl, by omega, rfl, fun j hj => by
        by_cases w : j = i
        · subst w; exact q
        · exact hP j (by omega)⟩
      rw [show (((i + 1 : Nat)) : Int) = (i : Int) + 1 by omega] at nx
      simp (disch := omega) only [i_lit, i_neg, i_add, i_sub, i_mul, i_ofNat, i_div, i_le, i_lt, i_eq, i_ix, i_inb, i_max, i_min, e_rem, j_lit, j_i, Int.reduceToNat, Int.reduceAdd, Int.reduceSub, Int.reduceMul, Int.reduceNeg, Int.reduceLT, Int.reduceLE, Int.reduceEq, gd_t, gd_T, ↓bd_m, ↓lh_t, ↓on_m, ↓ec_m, ↓reduceIte, if_true, if_false, true_and, and_true, false_and, and_false, true_or, or_true, false_or, or_false, Bool.false_eq_true, b2i_0, b2i_1, bl_0, bl_1, bl_b2, not_true_eq_false, not_false_eq_true, B_X8_fill_75, ts.k, ts.r1, ts.k1, ts.l1, ts.r2, ts.k2, ts.l2, ts.r3, ts.k3, ts.l3, ts.r4, ts.k4, ts.l4, ts.r5, ts.k5, ts.l5, ts.r6, ts.k6, ts.l6, ts.r7, ts.k7, ts.l7, ts.r8, ts.k8, ts.l8, ts.r9, ts.k9, ts.l9, ts.r10, ts.k10, ts.l10, ts.r11, ts.k11, ts.l11, ts.r12, ts.k12, ts.l12, ts.r13, ts.k13, ts.l13, ts.r14, ts.k14, ts.l14, ts.r15, ts.k15, ts.l15, ts.r16, ts.k16, ts.l16, ts.r17, ts.k17, ts.l17, ts.r18, ts.k18, ts.l18, ts.r19, ts.k19, ts.l19, ts.r20, ts.k20, ts.l20, z3, ho, y, v, e1, Int.toNat_natCast]
      exact nx
    · rw [b2_f q] at e1
      simp (disch := omega) only [i_lit, i_neg, i_add, i_sub, i_mul, i_ofNat, i_div, i_le, i_lt, i_eq, i_ix, i_inb, i_max, i_min, e_rem, j_lit, j_i, Int.reduceToNat, Int.reduceAdd, Int.reduceSub, Int.reduceMul, Int.reduceNeg, Int.reduceLT, Int.reduceLE, Int.reduceEq, gd_t, gd_T, ↓bd_m, ↓lh_t, ↓on_m, ↓ec_m, ↓reduceIte, if_true, if_false, true_and, and_true, false_and, and_false, true_or, or_true, false_or, or_false, Bool.false_eq_true, b2i_0, b2i_1, bl_0, bl_1, bl_b2, not_true_eq_false, not_false_eq_true, B_X8_fill_75, ts.k, ts.r1, ts.k1, ts.l1, ts.r2, ts.k2, ts.l2, ts.r3, ts.k3, ts.l3, ts.r4, ts.k4, ts.l4, ts.r5, ts.k5, ts.l5, ts.r6, ts.k6, ts.l6, ts.r7, ts.k7, ts.l7, ts.r8, ts.k8, ts.l8, ts.r9, ts.k9, ts.l9, ts.r10, ts.k10, ts.l10, ts.r11, ts.k11, ts.l11, ts.r12, ts.k12, ts.l12, ts.r13, ts.k13, ts.l13, ts.r14, ts.k14, ts.l14, ts.r15, ts.k15, ts.l15, ts.r16, ts.k16, ts.l16, ts.r17, ts.k17, ts.l17, ts.r18, ts.k18, ts.l18, ts.r19, ts.k19, ts.l19, ts.r20, ts.k20, ts.l20, z3, ho, y, v, e1, Int.toNat_natCast]
      exact H2 (fun u => q (u i (by omega)))
theorem FP_scr {z : Nat} : ∀ a, FP z a → scr z a := fun a q => by unfold FP at q; unfold scr; omega
theorem op_fill {z m : Nat} (x1 x2 x3 x4 : Int32) : ∀ hC hT, Rx hC hT z m → rm z hC → Ok2 (F_X0_fill hC z x1 x2 x3 x4 (z + 495)) (F_X8_fill hT m x1 x2 x3 x4) (fun a b => VI z m a b ∧ FC z hC a.2 ∧ FT m hT b.2 ∧ Rx a.2 b.2 z m) := by
  intro hC hT ⟨o, x, τ, υ, e, el, lw, r⟩ g
  have hn4 := r.c.rg.n
  have cs := r.cs
  have c := r.c
  have hz := r.hz
  have ts0 := r.tn.s
  have tn := r.tn.wm 5 (iI 0)
  have ti := tn.i
  have ts := tn.s
  have hgi := c.rg.i
  have gr : 1 ≤ hc hC ∧ 6 ≤ hs hC := by have := g.1; have := g.2.1; omega
  obtain ⟨t, rfl, ht⟩ := i_ex x1
  obtain ⟨tank, rfl, h2⟩ := i_ex x2
  obtain ⟨f, rfl, h3⟩ := i_ex x3
  obtain ⟨day, rfl, h4⟩ := i_ex x4
  have hg1 := g.1
  have hg2 := g.2.1
  have hm := r.m
  have n10F : (iI 1 = iI 0) = False := eq_false (by decide)
  have e1 := isTray_eq (wI hT m 5 (iI 0)) ht
  have e2 := within_eq (wI hT m 5 (iI 0)) (a := tank) (b := 1) (c := 12) (by omega) (by omega) (by omega)
  have e3 := isIn_eq hC (a := tank) (b := 1) (c := 12) (by omega) (by omega) (by omega)
  have e4 := within_eq (wI hT m 5 (iI 0)) (a := f) (b := 0) (c := tank) (by omega) (by omega) (by omega)
  have e5 := isIn_eq hC (a := f) (b := 0) (c := tank) (by omega) (by omega) (by omega)
  by_cases q1 : 0 ≤ t ∧ t ≤ 3
  · rw [b2_t q1] at e1
    obtain ⟨t, rfl⟩ := Int.eq_ofNat_of_zero_le q1.1
    have tO := trayOf_t cs (t := t) (by omega)
    have w7 := (cs.wt t (by omega)).2
    have i18 : hI (wI hT m 5 (iI 0)) (m + 18) t = hI hT (m + 18) t := by rw [hI_wI, if_neg (by omega)]
    by_cases q3 : hI hT (m + 18) t = iI (-1)
    · rcases r.tr t (by omega) with ⟨p1, p2⟩ | ⟨so, n, row, p1, p2, -⟩
      · rw [q3] at i18
        have g1 : 1 ≤ hc hC ∧ 8 ≤ hs hC := by omega
        have g2 : 1 ≤ hc (nz hC 1 8) ∧ 6 ≤ hs (nz hC 1 8) := by rw [hc_nz, hs_nz]; omega
        simp (disch := omega) only [i_lit, i_neg, i_add, i_sub, i_mul, i_ofNat, i_div, i_le, i_lt, i_eq, i_ix, i_inb, i_max, i_min, e_rem, j_lit, j_i, Int.reduceToNat, Int.reduceAdd, Int.reduceSub, Int.reduceMul, Int.reduceNeg, Int.reduceLT, Int.reduceLE, Int.reduceEq, gd_t, gd_T, ↓bd_m, ↓lh_t, ↓on_m, ↓ec_m, ↓reduceIte, if_true, if_false, true_and, and_true, false_and, and_false, true_or, or_true, false_or, or_false, Bool.false_eq_true, b2i_0, b2i_1, bl_0, bl_1, bl_b2, not_true_eq_false, not_false_eq_true, F_X0_fill, F_X1_fill, B_X1_fill_305, B_X0_fill_21, F_X8_fill, B_X8_fill_5, cs.k, tO, w7, tsize_n w7 p2 g1, g2, ts0.k, ts0.r1, ts0.k1, ts0.l1, ts0.r2, ts0.k2, ts0.l2, ts0.r3, ts0.k3, ts0.l3, ts0.r4, ts0.k4, ts0.l4, ts0.r5, ts0.k5, ts0.l5, ts0.r6, ts0.k6, ts0.l6, ts0.r7, ts0.k7, ts0.l7, ts0.r8, ts0.k8, ts0.l8, ts0.r9, ts0.k9, ts0.l9, ts0.r10, ts0.k10, ts0.l10, ts0.r11, ts0.k11, ts0.l11, ts0.r12, ts0.k12, ts0.l12, ts0.r13, ts0.k13, ts0.l13, ts0.r14, ts0.k14, ts0.l14, ts0.r15, ts0.k15, ts0.l15, ts0.r16, ts0.k16, ts0.l16, ts0.r17, ts0.k17, ts0.l17, ts0.r18, ts0.k18, ts0.l18, ts0.r19, ts0.k19, ts0.l19, ts0.r20, ts0.k20, ts0.l20, e1, hK_wI, hL_wI, hR_wI, i18, fails_eq ts.k, Nat.reduceEqDiff, Int.toNat_natCast]
        refine Ok2.some ⟨⟨by rw [hI5], fun w => absurd (show (iI 2 : Int32) = 0 from w) (by decide)⟩, FCnz r (by omega) (by omega), (FT.thr _ _ _ _).trans (FT.thr _ _ _ _), ⟨o, x, τ, υ, e, el, lw, (((r.nz 1 8).nw0 0 6).thr 5 (by omega) _).thr 5 (by omega) _⟩⟩
      · rw [p1, i_eq (by omega) (by omega)] at q3
        omega
    · obtain ⟨row, n, N, orow, Y, Z⟩ := TRP.yz cs r.tn.s (by omega) (r.tr t (by omega)) q3
      have qF : (hI (wI hT m 5 (iI 0)) (m + 18) t = iI (-1)) = False := eq_false (by rw [i18]; exact q3)
      have i19 : hI (wI hT m 5 (iI 0)) (m + 19) t = iI n := by rw [hI_wI, if_neg (by omega)]; exact Z.2.2.1
      have n28 := Z.2.2.2.1
      have nr : ¬ FP z row := fun u => by unfold FP at u; have := r.ow row (by omega); omega
      have Z1 : TZ (wI hT m 5 (iI 0)) m t n N := ⟨tn.s, Z.2.1, i19, Z.2.2.2.1, Z.2.2.2.2.1, Z.2.2.2.2.2⟩
      have e6 := isIn_eq hC (a := (n : Int)) (b := 1) (c := 28) (by omega) (by omega) (by omega)
      have bad : ∀ a b c d : Int32, ∀ u : Nat, B_X1_fill_65 hC z a b c u d (iI 0) = some (.inr (2, hn hC, nw hC 0 0 6)) := fun a b c d u => by
        unfold B_X1_fill_65
        simp (disch := omega) only [i_lit, i_neg, i_add, i_sub, i_mul, i_ofNat, i_div, i_le, i_lt, i_eq, i_ix, i_inb, i_max, i_min, e_rem, j_lit, j_i, Int.reduceToNat, Int.reduceAdd, Int.reduceSub, Int.reduceMul, Int.reduceNeg, Int.reduceLT, Int.reduceLE, Int.reduceEq, gd_t, gd_T, ↓bd_m, ↓lh_t, ↓on_m, ↓ec_m, ↓reduceIte, if_true, if_false, true_and, and_true, false_and, and_false, true_or, or_true, false_or, or_false, Bool.false_eq_true, b2i_0, b2i_1, bl_0, bl_1, bl_b2, not_true_eq_false, not_false_eq_true, right_f gr, Nat.reduceEqDiff]
      by_cases q4 : 1 ≤ tank ∧ tank ≤ 12
      · rw [b2_t q4] at e2 e3
        by_cases q5 : 0 ≤ f ∧ f ≤ tank
        · rw [b2_t q5] at e4 e5
          by_cases q6 : n = 0
          · rw [b2_f (by omega)] at e6
            have nT : ((n : Int) = 0) = True := eq_true (by omega)
            simp (disch := omega) only [i_lit, i_neg, i_add, i_sub, i_mul, i_ofNat, i_div, i_le, i_lt, i_eq, i_ix, i_inb, i_max, i_min, e_rem, j_lit, j_i, Int.reduceToNat, Int.reduceAdd, Int.reduceSub, Int.reduceMul, Int.reduceNeg, Int.reduceLT, Int.reduceLE, Int.reduceEq, gd_t, gd_T, ↓bd_m, ↓lh_t, ↓on_m, ↓ec_m, ↓reduceIte, if_true, if_false, true_and, and_true, false_and, and_false, true_or, or_true, false_or, or_false, Bool.false_eq_true, b2i_0, b2i_1, bl_0, bl_1, bl_b2, not_true_eq_false, not_false_eq_true, F_X0_fill, F_X1_fill, B_X1_fill_64, bad, B_X0_fill_25, F_X8_fill, B_X8_fill_5, B_X8_fill_66, cs.k, tO, w7, Y.size, e3, e5, e6, ts0.k, ts0.r1, ts0.k1, ts0.l1, ts0.r2, ts0.k2, ts0.l2, ts0.r3, ts0.k3, ts0.l3, ts0.r4, ts0.k4, ts0.l4, ts0.r5, ts0.k5, ts0.l5, ts0.r6, ts0.k6, ts0.l6, ts0.r7, ts0.k7, ts0.l7, ts0.r8, ts0.k8, ts0.l8, ts0.r9, ts0.k9, ts0.l9, ts0.r10, ts0.k10, ts0.l10, ts0.r11, ts0.k11, ts0.l11, ts0.r12, ts0.k12, ts0.l12, ts0.r13, ts0.k13, ts0.l13, ts0.r14, ts0.k14, ts0.l14, ts0.r15, ts0.k15, ts0.l15, ts0.r16, ts0.k16, ts0.l16, ts0.r17, ts0.k17, ts0.l17, ts0.r18, ts0.k18, ts0.l18, ts0.r19, ts0.k19, ts0.l19, ts0.r20, ts0.k20, ts0.l20, e1, hK_wI, hL_wI, hR_wI, qF, e2, e4, i19, nT, fails_eq ts.k, Nat.reduceEqDiff, Int.toNat_natCast]
            exact Ok2.some (r.bad _ (by decide))
          · rw [b2_t (by omega)] at e6
            have nT : ((n : Int) = 0) = False := eq_false (by omega)
            have w1 := isW_C Y Z.2.2.2.2.2 (M := 99) (by omega)
            by_cases q7 : allW n N 99
            · rw [bP_t q7] at w1
              obtain ⟨tank, rfl⟩ := Int.eq_ofNat_of_zero_le (show 0 ≤ tank by omega)
              obtain ⟨f, rfl⟩ := Int.eq_ofNat_of_zero_le q5.1
              obtain ⟨gT, k1, T2, PT⟩ := fillT Z1 q7 (tank := tank) (by omega)
              have Zg := Z1.fr T2
              have tsg := Zg.1
              have rT : ∀ R, Ok2 (some (R : Int32 × AH)) (B_X8_fill_120 (wI hT m 5 (iI 0)) m (iI t) (iI tank) (iI f) (iI day)) (fun a b => VI z m a b ∧ FC z hC a.2 ∧ FT m hT b.2 ∧ Rx a.2 b.2 z m) → Ok2 (some R) (F_X8_fill hT m (iI t) (iI tank) (iI f) (iI day)) (fun a b => VI z m a b ∧ FC z hC a.2 ∧ FT m hT b.2 ∧ Rx a.2 b.2 z m) := fun R hR => by
                simp (disch := omega) only [i_lit, i_neg, i_add, i_sub, i_mul, i_ofNat, i_div, i_le, i_lt, i_eq, i_ix, i_inb, i_max, i_min, e_rem, j_lit, j_i, Int.reduceToNat, Int.reduceAdd, Int.reduceSub, Int.reduceMul, Int.reduceNeg, Int.reduceLT, Int.reduceLE, Int.reduceEq, gd_t, gd_T, ↓bd_m, ↓lh_t, ↓on_m, ↓ec_m, ↓reduceIte, if_true, if_false, true_and, and_true, false_and, and_false, true_or, or_true, false_or, or_false, Bool.false_eq_true, b2i_0, b2i_1, bl_0, bl_1, bl_b2, not_true_eq_false, not_false_eq_true, F_X8_fill, B_X8_fill_5, ts0.k, ts0.r1, ts0.k1, ts0.l1, ts0.r2, ts0.k2, ts0.l2, ts0.r3, ts0.k3, ts0.l3, ts0.r4, ts0.k4, ts0.l4, ts0.r5, ts0.k5, ts0.l5, ts0.r6, ts0.k6, ts0.l6, ts0.r7, ts0.k7, ts0.l7, ts0.r8, ts0.k8, ts0.l8, ts0.r9, ts0.k9, ts0.l9, ts0.r10, ts0.k10, ts0.l10, ts0.r11, ts0.k11, ts0.l11, ts0.r12, ts0.k12, ts0.l12, ts0.r13, ts0.k13, ts0.l13, ts0.r14, ts0.k14, ts0.l14, ts0.r15, ts0.k15, ts0.l15, ts0.r16, ts0.k16, ts0.l16, ts0.r17, ts0.k17, ts0.l17, ts0.r18, ts0.k18, ts0.l18, ts0.r19, ts0.k19, ts0.l19, ts0.r20, ts0.k20, ts0.l20, e1, hK_wI, hL_wI, hR_wI, qF, e2, e4, i19, nT, Int.toNat_natCast]
                exact within_T Z1 _ _ _ (E := fun X => Ok2 (some R) X _) (fun _ => hR) (fun u => absurd q7 u)
              -- the component ends as told
              have fin : ∀ (g' : AH) (w : Nat), tf (FP z) hC g' → ∀ v : Int, i31 v → VI z m (iI 0, wJ g' (z + 495) 0 (jI v)) (iI v, gT) ∧ FC z hC (wJ g' (z + 495) 0 (jI v)) ∧ FT m hT gT ∧ Rx (wJ g' (z + 495) 0 (jI v)) gT z m := fun g' _ T1 v hv => r.finT g T1 FP_scr T2 (fun a q => by omega) _ _ (j_i hv).symm
              have cC : ∀ {E : Option (ER Int32) → Prop}, (∀ g', tf (FP z) hC g' → ptC g' z n tank N 0 → E (B_X1_fill_192 g' z (iI f) (iI day) (z + 440 + t) (iI n))) → E (F_X1_fill hC z (iI t) (iI tank) (iI f) (iI day)) := fun {E} HE => by
                simp (disch := omega) only [i_lit, i_neg, i_add, i_sub, i_mul, i_ofNat, i_div, i_le, i_lt, i_eq, i_ix, i_inb, i_max, i_min, e_rem, j_lit, j_i, Int.reduceToNat, Int.reduceAdd, Int.reduceSub, Int.reduceMul, Int.reduceNeg, Int.reduceLT, Int.reduceLE, Int.reduceEq, gd_t, gd_T, ↓bd_m, ↓lh_t, ↓on_m, ↓ec_m, ↓reduceIte, if_true, if_false, true_and, and_true, false_and, and_false, true_or, or_true, false_or, or_false, Bool.false_eq_true, b2i_0, b2i_1, bl_0, bl_1, bl_b2, not_true_eq_false, not_false_eq_true, F_X1_fill, B_X1_fill_65, cs.k, tO, w7, Y.size, e3, e5, e6, w1, n10F, right_t]
                exact fillC Y nr q7 (by omega) _ _ HE
              unfold F_X0_fill
              rw [gd_t _ cs.k]
              refine cC (E := fun X => Ok2 (ec X _ _) _ _) (fun g' T1 PC => ?_)
              have Y' := Y.fr nr T1
              have cs' := Y'.1
              have g2 := g.tf T1
              have p0C := PC 0 f (by omega) (by omega) (by omega)
              have p0T := PT 0 f (by omega) (by omega) (by omega)
              rw [show z + 445 + 0 = z + 445 by omega] at p0C
              rw [show 13 * 0 + f = f by omega] at p0T
              have pb := pdS_b q7 (tank := tank) (by omega) (n - 0) (by omega) f (by omega)
              have w0 := cs'.w444 0 (by omega)
              rw [show z + 445 + 0 = z + 445 by omega] at w0
              have n28' : ((n - 0 : Nat) : Int) ≤ 28 := by omega
              generalize pdS N n tank (n - 0) f = P0 at p0C p0T pb
              by_cases q8 : day = -1
              · simp (disch := omega) only [i_lit, i_neg, i_add, i_sub, i_mul, i_ofNat, i_div, i_le, i_lt, i_eq, i_ix, i_inb, i_max, i_min, e_rem, j_lit, j_i, Int.reduceToNat, Int.reduceAdd, Int.reduceSub, Int.reduceMul, Int.reduceNeg, Int.reduceLT, Int.reduceLE, Int.reduceEq, gd_t, gd_T, ↓bd_m, ↓lh_t, ↓on_m, ↓ec_m, ↓reduceIte, if_true, if_false, true_and, and_true, false_and, and_false, true_or, or_true, false_or, or_false, Bool.false_eq_true, b2i_0, b2i_1, bl_0, bl_1, bl_b2, not_true_eq_false, not_false_eq_true, B_X1_fill_192, q8, cs'.k, cs'.r444, cs'.k444, cs'.l444, w0.1, w0.2.1, w0.2.2, p0C, g2.2.2.1, g2.2.2.2.1, Int.toNat_natCast, Int.toNat_zero]
                rw [← q8]
                refine rT _ ?_
                simp (disch := omega) only [i_lit, i_neg, i_add, i_sub, i_mul, i_ofNat, i_div, i_le, i_lt, i_eq, i_ix, i_inb, i_max, i_min, e_rem, j_lit, j_i, Int.reduceToNat, Int.reduceAdd, Int.reduceSub, Int.reduceMul, Int.reduceNeg, Int.reduceLT, Int.reduceLE, Int.reduceEq, gd_t, gd_T, ↓bd_m, ↓lh_t, ↓on_m, ↓ec_m, ↓reduceIte, if_true, if_false, true_and, and_true, false_and, and_false, true_or, or_true, false_or, or_false, Bool.false_eq_true, b2i_0, b2i_1, bl_0, bl_1, bl_b2, not_true_eq_false, not_false_eq_true, B_X8_fill_120, ts.k, k1, q8, tsg.k, tsg.r1, tsg.k1, tsg.l1, tsg.r2, tsg.k2, tsg.l2, tsg.r3, tsg.k3, tsg.l3, tsg.r4, tsg.k4, tsg.l4, tsg.r5, tsg.k5, tsg.l5, tsg.r6, tsg.k6, tsg.l6, tsg.r7, tsg.k7, tsg.l7, tsg.r8, tsg.k8, tsg.l8, tsg.r9, tsg.k9, tsg.l9, tsg.r10, tsg.k10, tsg.l10, tsg.r11, tsg.k11, tsg.l11, tsg.r12, tsg.k12, tsg.l12, tsg.r13, tsg.k13, tsg.l13, tsg.r14, tsg.k14, tsg.l14, tsg.r15, tsg.k15, tsg.l15, tsg.r16, tsg.k16, tsg.l16, tsg.r17, tsg.k17, tsg.l17, tsg.r18, tsg.k18, tsg.l18, tsg.r19, tsg.k19, tsg.l19, tsg.r20, tsg.k20, tsg.l20, p0T, Int.toNat_natCast]
                exact Ok2.some (fin g' 0 T1 _ (by omega))
              · have q8F : (day = -1) = False := eq_false q8
                have ei := isIn_eq g' (a := day) (b := 0) (c := (n : Int) - 1) (by omega) (by omega) (by omega)
                have ew := within_eq gT (a := day) (b := 0) (c := (n : Int) - 1) (by omega) (by omega) (by omega)
                have i19g := Zg.2.2.1
                by_cases q9 : 0 ≤ day ∧ day ≤ (n : Int) - 1
                · rw [b2_t q9] at ei ew
                  obtain ⟨day, rfl⟩ := Int.eq_ofNat_of_zero_le q9.1
                  obtain ⟨w, v1, v2, v3⟩ := fill_walk Y' Zg q7 (tank := tank) (by omega) PC PT (day := day) (by omega) day 0 f fuel fuel (iI 0) (by omega) (by omega) (by unfold fuel; omega) (by unfold fuel; omega)
                  rw [if_pos rfl] at v2
                  have v2 : G_X1_fill_233 g' z (iI day) (z + 440 + t) (iI f) (iI 0) (iI 0) = some (.inl (iI w, g')) := v2
                  have v3 : G_X8_fill_166 gT m (iI t) (iI day) (iI f) (iI 0) = some (iI w, gT) := v3
                  simp (disch := omega) only [i_lit, i_neg, i_add, i_sub, i_mul, i_ofNat, i_div, i_le, i_lt, i_eq, i_ix, i_inb, i_max, i_min, e_rem, j_lit, j_i, Int.reduceToNat, Int.reduceAdd, Int.reduceSub, Int.reduceMul, Int.reduceNeg, Int.reduceLT, Int.reduceLE, Int.reduceEq, gd_t, gd_T, ↓bd_m, ↓lh_t, ↓on_m, ↓ec_m, ↓reduceIte, if_true, if_false, true_and, and_true, false_and, and_false, true_or, or_true, false_or, or_false, Bool.false_eq_true, b2i_0, b2i_1, bl_0, bl_1, bl_b2, not_true_eq_false, not_false_eq_true, B_X1_fill_192, q8F, ei, v2, g2.2.2.1, g2.2.2.2.1]
                  refine rT _ ?_
                  simp (disch := omega) only [i_lit, i_neg, i_add, i_sub, i_mul, i_ofNat, i_div, i_le, i_lt, i_eq, i_ix, i_inb, i_max, i_min, e_rem, j_lit, j_i, Int.reduceToNat, Int.reduceAdd, Int.reduceSub, Int.reduceMul, Int.reduceNeg, Int.reduceLT, Int.reduceLE, Int.reduceEq, gd_t, gd_T, ↓bd_m, ↓lh_t, ↓on_m, ↓ec_m, ↓reduceIte, if_true, if_false, true_and, and_true, false_and, and_false, true_or, or_true, false_or, or_false, Bool.false_eq_true, b2i_0, b2i_1, bl_0, bl_1, bl_b2, not_true_eq_false, not_false_eq_true, B_X8_fill_120, ts.k, k1, q8F, tsg.k, tsg.r1, tsg.k1, tsg.l1, tsg.r2, tsg.k2, tsg.l2, tsg.r3, tsg.k3, tsg.l3, tsg.r4, tsg.k4, tsg.l4, tsg.r5, tsg.k5, tsg.l5, tsg.r6, tsg.k6, tsg.l6, tsg.r7, tsg.k7, tsg.l7, tsg.r8, tsg.k8, tsg.l8, tsg.r9, tsg.k9, tsg.l9, tsg.r10, tsg.k10, tsg.l10, tsg.r11, tsg.k11, tsg.l11, tsg.r12, tsg.k12, tsg.l12, tsg.r13, tsg.k13, tsg.l13, tsg.r14, tsg.k14, tsg.l14, tsg.r15, tsg.k15, tsg.l15, tsg.r16, tsg.k16, tsg.l16, tsg.r17, tsg.k17, tsg.l17, tsg.r18, tsg.k18, tsg.l18, tsg.r19, tsg.k19, tsg.l19, tsg.r20, tsg.k20, tsg.l20, i19g, ew, v3, Int.toNat_natCast]
                  exact Ok2.some (fin g' 0 T1 _ (by omega))
                · rw [b2_f q9] at ei ew
                  simp (disch := omega) only [i_lit, i_neg, i_add, i_sub, i_mul, i_ofNat, i_div, i_le, i_lt, i_eq, i_ix, i_inb, i_max, i_min, e_rem, j_lit, j_i, Int.reduceToNat, Int.reduceAdd, Int.reduceSub, Int.reduceMul, Int.reduceNeg, Int.reduceLT, Int.reduceLE, Int.reduceEq, gd_t, gd_T, ↓bd_m, ↓lh_t, ↓on_m, ↓ec_m, ↓reduceIte, if_true, if_false, true_and, and_true, false_and, and_false, true_or, or_true, false_or, or_false, Bool.false_eq_true, b2i_0, b2i_1, bl_0, bl_1, bl_b2, not_true_eq_false, not_false_eq_true, B_X1_fill_192, q8F, ei, g2.2.2.1, g2.2.2.2.1]
                  refine rT _ ?_
                  simp (disch := omega) only [i_lit, i_neg, i_add, i_sub, i_mul, i_ofNat, i_div, i_le, i_lt, i_eq, i_ix, i_inb, i_max, i_min, e_rem, j_lit, j_i, Int.reduceToNat, Int.reduceAdd, Int.reduceSub, Int.reduceMul, Int.reduceNeg, Int.reduceLT, Int.reduceLE, Int.reduceEq, gd_t, gd_T, ↓bd_m, ↓lh_t, ↓on_m, ↓ec_m, ↓reduceIte, if_true, if_false, true_and, and_true, false_and, and_false, true_or, or_true, false_or, or_false, Bool.false_eq_true, b2i_0, b2i_1, bl_0, bl_1, bl_b2, not_true_eq_false, not_false_eq_true, B_X8_fill_120, ts.k, k1, q8F, tsg.k, tsg.r1, tsg.k1, tsg.l1, tsg.r2, tsg.k2, tsg.l2, tsg.r3, tsg.k3, tsg.l3, tsg.r4, tsg.k4, tsg.l4, tsg.r5, tsg.k5, tsg.l5, tsg.r6, tsg.k6, tsg.l6, tsg.r7, tsg.k7, tsg.l7, tsg.r8, tsg.k8, tsg.l8, tsg.r9, tsg.k9, tsg.l9, tsg.r10, tsg.k10, tsg.l10, tsg.r11, tsg.k11, tsg.l11, tsg.r12, tsg.k12, tsg.l12, tsg.r13, tsg.k13, tsg.l13, tsg.r14, tsg.k14, tsg.l14, tsg.r15, tsg.k15, tsg.l15, tsg.r16, tsg.k16, tsg.l16, tsg.r17, tsg.k17, tsg.l17, tsg.r18, tsg.k18, tsg.l18, tsg.r19, tsg.k19, tsg.l19, tsg.r20, tsg.k20, tsg.l20, i19g, ew, Int.toNat_natCast]
                  exact Ok2.some (fin g' 0 T1 _ (by omega))
            · rw [bP_f q7] at w1
              simp (disch := omega) only [i_lit, i_neg, i_add, i_sub, i_mul, i_ofNat, i_div, i_le, i_lt, i_eq, i_ix, i_inb, i_max, i_min, e_rem, j_lit, j_i, Int.reduceToNat, Int.reduceAdd, Int.reduceSub, Int.reduceMul, Int.reduceNeg, Int.reduceLT, Int.reduceLE, Int.reduceEq, gd_t, gd_T, ↓bd_m, ↓lh_t, ↓on_m, ↓ec_m, ↓reduceIte, if_true, if_false, true_and, and_true, false_and, and_false, true_or, or_true, false_or, or_false, Bool.false_eq_true, b2i_0, b2i_1, bl_0, bl_1, bl_b2, not_true_eq_false, not_false_eq_true, F_X0_fill, F_X1_fill, B_X1_fill_64, bad, B_X0_fill_25, F_X8_fill, B_X8_fill_5, cs.k, tO, w7, Y.size, e3, e5, e6, w1, ts0.k, ts0.r1, ts0.k1, ts0.l1, ts0.r2, ts0.k2, ts0.l2, ts0.r3, ts0.k3, ts0.l3, ts0.r4, ts0.k4, ts0.l4, ts0.r5, ts0.k5, ts0.l5, ts0.r6, ts0.k6, ts0.l6, ts0.r7, ts0.k7, ts0.l7, ts0.r8, ts0.k8, ts0.l8, ts0.r9, ts0.k9, ts0.l9, ts0.r10, ts0.k10, ts0.l10, ts0.r11, ts0.k11, ts0.l11, ts0.r12, ts0.k12, ts0.l12, ts0.r13, ts0.k13, ts0.l13, ts0.r14, ts0.k14, ts0.l14, ts0.r15, ts0.k15, ts0.l15, ts0.r16, ts0.k16, ts0.l16, ts0.r17, ts0.k17, ts0.l17, ts0.r18, ts0.k18, ts0.l18, ts0.r19, ts0.k19, ts0.l19, ts0.r20, ts0.k20, ts0.l20, e1, hK_wI, hL_wI, hR_wI, qF, e2, e4, i19, nT, Nat.reduceEqDiff, Int.toNat_natCast]
              refine within_T Z1 _ _ _ (E := fun X => Ok2 _ X _) (fun u => absurd u q7) (fun _ => ?_)
              simp (disch := omega) only [i_lit, i_neg, i_add, i_sub, i_mul, i_ofNat, i_div, i_le, i_lt, i_eq, i_ix, i_inb, i_max, i_min, e_rem, j_lit, j_i, Int.reduceToNat, Int.reduceAdd, Int.reduceSub, Int.reduceMul, Int.reduceNeg, Int.reduceLT, Int.reduceLE, Int.reduceEq, gd_t, gd_T, ↓bd_m, ↓lh_t, ↓on_m, ↓ec_m, ↓reduceIte, if_true, if_false, true_and, and_true, false_and, and_false, true_or, or_true, false_or, or_false, Bool.false_eq_true, b2i_0, b2i_1, bl_0, bl_1, bl_b2, not_true_eq_false, not_false_eq_true, B_X8_fill_108, ts.k, fails_eq ts.k]
              exact Ok2.some (r.bad _ (by decide))
        · rw [b2_f q5] at e4 e5
          simp (disch := omega) only [i_lit, i_neg, i_add, i_sub, i_mul, i_ofNat, i_div, i_le, i_lt, i_eq, i_ix, i_inb, i_max, i_min, e_rem, j_lit, j_i, Int.reduceToNat, Int.reduceAdd, Int.reduceSub, Int.reduceMul, Int.reduceNeg, Int.reduceLT, Int.reduceLE, Int.reduceEq, gd_t, gd_T, ↓bd_m, ↓lh_t, ↓on_m, ↓ec_m, ↓reduceIte, if_true, if_false, true_and, and_true, false_and, and_false, true_or, or_true, false_or, or_false, Bool.false_eq_true, b2i_0, b2i_1, bl_0, bl_1, bl_b2, not_true_eq_false, not_false_eq_true, F_X0_fill, F_X1_fill, B_X1_fill_64, bad, B_X0_fill_25, F_X8_fill, B_X8_fill_5, B_X8_fill_66, cs.k, tO, w7, Y.size, e3, e5, ts0.k, ts0.r1, ts0.k1, ts0.l1, ts0.r2, ts0.k2, ts0.l2, ts0.r3, ts0.k3, ts0.l3, ts0.r4, ts0.k4, ts0.l4, ts0.r5, ts0.k5, ts0.l5, ts0.r6, ts0.k6, ts0.l6, ts0.r7, ts0.k7, ts0.l7, ts0.r8, ts0.k8, ts0.l8, ts0.r9, ts0.k9, ts0.l9, ts0.r10, ts0.k10, ts0.l10, ts0.r11, ts0.k11, ts0.l11, ts0.r12, ts0.k12, ts0.l12, ts0.r13, ts0.k13, ts0.l13, ts0.r14, ts0.k14, ts0.l14, ts0.r15, ts0.k15, ts0.l15, ts0.r16, ts0.k16, ts0.l16, ts0.r17, ts0.k17, ts0.l17, ts0.r18, ts0.k18, ts0.l18, ts0.r19, ts0.k19, ts0.l19, ts0.r20, ts0.k20, ts0.l20, e1, hK_wI, hL_wI, hR_wI, qF, e2, e4, fails_eq ts.k, Nat.reduceEqDiff, Int.toNat_natCast]
          exact Ok2.some (r.bad _ (by decide))
      · rw [b2_f q4] at e2 e3
        simp (disch := omega) only [i_lit, i_neg, i_add, i_sub, i_mul, i_ofNat, i_div, i_le, i_lt, i_eq, i_ix, i_inb, i_max, i_min, e_rem, j_lit, j_i, Int.reduceToNat, Int.reduceAdd, Int.reduceSub, Int.reduceMul, Int.reduceNeg, Int.reduceLT, Int.reduceLE, Int.reduceEq, gd_t, gd_T, ↓bd_m, ↓lh_t, ↓on_m, ↓ec_m, ↓reduceIte, if_true, if_false, true_and, and_true, false_and, and_false, true_or, or_true, false_or, or_false, Bool.false_eq_true, b2i_0, b2i_1, bl_0, bl_1, bl_b2, not_true_eq_false, not_false_eq_true, F_X0_fill, F_X1_fill, B_X1_fill_64, bad, B_X0_fill_25, F_X8_fill, B_X8_fill_5, B_X8_fill_66, cs.k, tO, w7, Y.size, e3, ts0.k, ts0.r1, ts0.k1, ts0.l1, ts0.r2, ts0.k2, ts0.l2, ts0.r3, ts0.k3, ts0.l3, ts0.r4, ts0.k4, ts0.l4, ts0.r5, ts0.k5, ts0.l5, ts0.r6, ts0.k6, ts0.l6, ts0.r7, ts0.k7, ts0.l7, ts0.r8, ts0.k8, ts0.l8, ts0.r9, ts0.k9, ts0.l9, ts0.r10, ts0.k10, ts0.l10, ts0.r11, ts0.k11, ts0.l11, ts0.r12, ts0.k12, ts0.l12, ts0.r13, ts0.k13, ts0.l13, ts0.r14, ts0.k14, ts0.l14, ts0.r15, ts0.k15, ts0.l15, ts0.r16, ts0.k16, ts0.l16, ts0.r17, ts0.k17, ts0.l17, ts0.r18, ts0.k18, ts0.l18, ts0.r19, ts0.k19, ts0.l19, ts0.r20, ts0.k20, ts0.l20, e1, hK_wI, hL_wI, hR_wI, qF, e2, fails_eq ts.k, Nat.reduceEqDiff, Int.toNat_natCast]
        exact Ok2.some (r.bad _ (by decide))
  · rw [b2_f q1] at e1
    simp (disch := omega) only [i_lit, i_neg, i_add, i_sub, i_mul, i_ofNat, i_div, i_le, i_lt, i_eq, i_ix, i_inb, i_max, i_min, e_rem, j_lit, j_i, Int.reduceToNat, Int.reduceAdd, Int.reduceSub, Int.reduceMul, Int.reduceNeg, Int.reduceLT, Int.reduceLE, Int.reduceEq, gd_t, gd_T, ↓bd_m, ↓lh_t, ↓on_m, ↓ec_m, ↓reduceIte, if_true, if_false, true_and, and_true, false_and, and_false, true_or, or_true, false_or, or_false, Bool.false_eq_true, b2i_0, b2i_1, bl_0, bl_1, bl_b2, not_true_eq_false, not_false_eq_true, F_X0_fill, F_X1_fill, B_X0_fill_17, F_X8_fill, B_X8_fill_5, cs.k, trayOf_f hC z gr ht q1, ts0.k, e1, hK_wI, fails_eq ts.k, Nat.reduceEqDiff]
    exact Ok2.some (r.bad _ (by decide))
