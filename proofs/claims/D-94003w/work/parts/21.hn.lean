/-! PURE HN: rise, the call -/
set_option maxRecDepth 100000
theorem op_rise {z m : Nat} (x1 x2 x3 : Int32) : ∀ hC hT, Rx hC hT z m → rm z hC → Ok2 (F_X0_rise hC z x1 x2 x3 (z + 495)) (F_X8_rise hT m x1 x2 x3) (fun a b => VI z m a b ∧ FC z hC a.2 ∧ FT m hT b.2 ∧ Rx a.2 b.2 z m) := by
  intro hC hT ⟨o, x, τ, υ, e, el, lw, r⟩ g
  have hn4 := r.c.rg.n
  have cs := r.cs
  have c := r.c
  have hz := r.hz
  have ts0 := r.tn.s
  have tn := r.tn.wm 5 (iI 0)
  have ti := tn.i
  have ts := tn.s
  have hgi := c.rg.i
  have gr : 1 ≤ hc hC ∧ 6 ≤ hs hC := by have := g.1; have := g.2.1; omega
  obtain ⟨a, rfl, ha⟩ := i_ex x1
  obtain ⟨b, rfl, hb⟩ := i_ex x2
  obtain ⟨w, rfl, hw⟩ := i_ex x3
  have hnz := r.hnz
  have hg1 := g.1
  have hg2 := g.2.1
  obtain ⟨hD, eD, nD, cD, sD2, sD, kD, lD, vD, rD⟩ := row3 r g a b w
  have g4 : 0 ≤ (3 : Int32).toInt ∧ ix 3 ≤ 1000000 ∧ 1 ≤ hc hC ∧ ix 3 ≤ hs hC := ⟨by decide, by decide, by omega, by show 3 ≤ hs hC; omega⟩
  have kn : hK (nw hC 100 3 3) (hn hC) = 100 := by rw [hK_nw, if_pos rfl]
  have ln : hL (nw hC 100 3 3) (hn hC) = 3 := by rw [hL_nw, if_pos rfl]
  have e1 : F_X1_rise hC z (iI a) (iI b) (iI w) = G_X1_rise_20 hD z (hn hC) (iI 0) := by
    have ix3 : Int32.toNatClampNeg (iI 3) = 3 := rfl
    have i3 : (iI 3).toInt = 3 := rfl
    simp (disch := omega) only [i_lit, i_neg, i_add, i_sub, i_mul, i_ofNat, i_div, i_le, i_lt, i_eq, i_ix, i_inb, i_max, i_min, e_rem, j_lit, j_i, Int.reduceToNat, Int.reduceAdd, Int.reduceSub, Int.reduceMul, Int.reduceNeg, Int.reduceLT, Int.reduceLE, Int.reduceEq, gd_t, gd_T, ↓bd_m, ↓lh_t, ↓on_m, ↓ec_m, ↓reduceIte, if_true, if_false, true_and, and_true, false_and, and_false, true_or, or_true, false_or, or_false, Bool.false_eq_true, b2i_0, b2i_1, bl_0, bl_1, bl_b2, not_true_eq_false, not_false_eq_true, F_X1_rise, B_X1_rise_7, B_X1_rise_11, B_X1_rise_15, ix3, i3, kn, ln, hK_wI, hL_wI, eD]
  have e2 := riseC (z := z) kD lD ha hb hw (vD 0 (by omega)) (vD 1 (by omega)) (vD 2 (by omega)) (by omega) (fuel - 4)
  have e3 : lp (L_X1_rise_20 hD) (fuel - 4 + 1 + 1 + 1 + 1) (hD, z, hn hC, iI 0) = G_X1_rise_20 hD z (hn hC) (iI 0) := rfl
  rw [e3, ← e1] at e2
  have l1 := isLag_eq (wI hT m 5 (iI 0)) ha
  have l2 := isLag_eq (wI hT m 5 (iI 0)) hb
  have l3 := isLag_eq (wI hT m 5 (iI 0)) hw
  have F : FC z hC (nw hD 0 0 6) := ⟨⟨by rw [hn_nw]; omega, by rw [hc_nw]; omega, by rw [hs_nw]; omega⟩, fun u q1 q2 => (sD u (by omega)).trans (sm_nw (by omega)), by rw [hK_nw, if_neg (by omega), (sD _ (by omega)).1], by rw [hL_nw, if_neg (by omega), (sD _ (by omega)).2.1]⟩
  have bad : VI z m (iI 1, nw hD 0 0 6) (iI 0, wI (wI hT m 5 (iI 0)) m 5 (iI 1)) ∧ FC z hC (nw hD 0 0 6) ∧ FT m hT (wI (wI hT m 5 (iI 0)) m 5 (iI 1)) ∧ Rx (nw hD 0 0 6) (wI (wI hT m 5 (iI 0)) m 5 (iI 1)) z m := ⟨⟨by show iI 1 = _; rw [hI5], fun w => absurd (show (iI 1 : Int32) = 0 from w) (by decide)⟩, F, (FT.thr _ _ _ _).trans (FT.thr _ _ _ _), ⟨o, x, τ, υ, e, el, lw, ((rD.nw0 0 6).thr 5 (by omega) _).thr 5 (by omega) _⟩⟩
  unfold F_X0_rise F_X8_rise
  rw [gd_t _ cs.k, gd_t _ ts0.k, lh_t, show (0 : Int32) = iI 0 from rfl]
  obtain ⟨e4, e5⟩ := e2
  by_cases q1 : 0 ≤ a ∧ a ≤ 20
  · rw [b2_t q1] at l1
    obtain ⟨e6, e7⟩ := e5 q1
    by_cases q2 : b = -1
    · rw [e6 q2]
      have qT : (b = -1) = True := eq_true q2
      have R : B_X8_rise_5 (wI hT m 5 (iI 0)) m (iI a) (iI b) (iI w) = B_X8_rise_56 (wI hT m 5 (iI 0)) m (iI a) (iI b) (iI (-1)) := by
        simp (disch := omega) only [i_lit, i_neg, i_add, i_sub, i_mul, i_ofNat, i_div, i_le, i_lt, i_eq, i_ix, i_inb, i_max, i_min, e_rem, j_lit, j_i, Int.reduceToNat, Int.reduceAdd, Int.reduceSub, Int.reduceMul, Int.reduceNeg, Int.reduceLT, Int.reduceLE, Int.reduceEq, gd_t, gd_T, ↓bd_m, ↓lh_t, ↓on_m, ↓ec_m, ↓reduceIte, if_true, if_false, true_and, and_true, false_and, and_false, true_or, or_true, false_or, or_false, Bool.false_eq_true, b2i_0, b2i_1, bl_0, bl_1, bl_b2, not_true_eq_false, not_false_eq_true, B_X8_rise_5, B_X8_rise_15, B_X8_rise_36, qT, l1]
      rw [R]
      exact rise_end r g nD cD sD2 sD kD lD (k := 1) (by omega) (fun s hs => by rw [vD s (by omega)]; unfold rV; rw [if_pos (by omega), if_pos (by omega)]) rD q1 (by omega) (by omega) (by rw [if_pos q2]) (fun _ => rfl)
    · have qF : (b = -1) = False := eq_false q2
      obtain ⟨e8, e9⟩ := e7 q2
      by_cases q3 : 0 ≤ b ∧ b ≤ 20
      · rw [b2_t q3] at l2
        obtain ⟨e10, e11⟩ := e9 q3
        by_cases q4 : w = -1
        · rw [e10 q4]
          have qT : (w = -1) = True := eq_true q4
          have R : B_X8_rise_5 (wI hT m 5 (iI 0)) m (iI a) (iI b) (iI w) = B_X8_rise_56 (wI hT m 5 (iI 0)) m (iI a) (iI b) (iI w) := by
            simp (disch := omega) only [i_lit, i_neg, i_add, i_sub, i_mul, i_ofNat, i_div, i_le, i_lt, i_eq, i_ix, i_inb, i_max, i_min, e_rem, j_lit, j_i, Int.reduceToNat, Int.reduceAdd, Int.reduceSub, Int.reduceMul, Int.reduceNeg, Int.reduceLT, Int.reduceLE, Int.reduceEq, gd_t, gd_T, ↓bd_m, ↓lh_t, ↓on_m, ↓ec_m, ↓reduceIte, if_true, if_false, true_and, and_true, false_and, and_false, true_or, or_true, false_or, or_false, Bool.false_eq_true, b2i_0, b2i_1, bl_0, bl_1, bl_b2, not_true_eq_false, not_false_eq_true, B_X8_rise_5, B_X8_rise_15, B_X8_rise_36, qF, qT, l1, l2]
          rw [R]
          exact rise_end r g nD cD sD2 sD kD lD (k := 2) (by omega) (fun s hs => vD s (by omega)) rD q1 (by omega) (by omega) (by rw [if_neg q2, if_pos q4]) (fun u => absurd u q2)
        · have qF4 : (w = -1) = False := eq_false q4
          obtain ⟨e12, e13⟩ := e11 q4
          by_cases q5 : 0 ≤ w ∧ w ≤ 20
          · rw [b2_t q5] at l3
            rw [e13 q5]
            have R : B_X8_rise_5 (wI hT m 5 (iI 0)) m (iI a) (iI b) (iI w) = B_X8_rise_56 (wI hT m 5 (iI 0)) m (iI a) (iI b) (iI w) := by
              simp (disch := omega) only [i_lit, i_neg, i_add, i_sub, i_mul, i_ofNat, i_div, i_le, i_lt, i_eq, i_ix, i_inb, i_max, i_min, e_rem, j_lit, j_i, Int.reduceToNat, Int.reduceAdd, Int.reduceSub, Int.reduceMul, Int.reduceNeg, Int.reduceLT, Int.reduceLE, Int.reduceEq, gd_t, gd_T, ↓bd_m, ↓lh_t, ↓on_m, ↓ec_m, ↓reduceIte, if_true, if_false, true_and, and_true, false_and, and_false, true_or, or_true, false_or, or_false, Bool.false_eq_true, b2i_0, b2i_1, bl_0, bl_1, bl_b2, not_true_eq_false, not_false_eq_true, B_X8_rise_5, B_X8_rise_15, B_X8_rise_36, qF, qF4, l1, l2, l3]
            rw [R]
            exact rise_end r g nD cD sD2 sD kD lD (k := 3) (by omega) (fun s hs => vD s (by omega)) rD q1 (by omega) (by omega) (by rw [if_neg q2, if_neg q4]) (fun u => absurd u q2)
          · rw [b2_f q5] at l3
            rw [e12 q5]
            simp (disch := omega) only [i_lit, i_neg, i_add, i_sub, i_mul, i_ofNat, i_div, i_le, i_lt, i_eq, i_ix, i_inb, i_max, i_min, e_rem, j_lit, j_i, Int.reduceToNat, Int.reduceAdd, Int.reduceSub, Int.reduceMul, Int.reduceNeg, Int.reduceLT, Int.reduceLE, Int.reduceEq, gd_t, gd_T, ↓bd_m, ↓lh_t, ↓on_m, ↓ec_m, ↓reduceIte, if_true, if_false, true_and, and_true, false_and, and_false, true_or, or_true, false_or, or_false, Bool.false_eq_true, b2i_0, b2i_1, bl_0, bl_1, bl_b2, not_true_eq_false, not_false_eq_true, B_X0_rise_15, B_X8_rise_5, B_X8_rise_15, B_X8_rise_36, B_X8_rise_50, qF, qF4, l1, l2, l3, ts.k, fails_eq ts.k, Nat.reduceEqDiff]
            exact Ok2.some bad
      · rw [b2_f q3] at l2
        rw [e8 q3]
        simp (disch := omega) only [i_lit, i_neg, i_add, i_sub, i_mul, i_ofNat, i_div, i_le, i_lt, i_eq, i_ix, i_inb, i_max, i_min, e_rem, j_lit, j_i, Int.reduceToNat, Int.reduceAdd, Int.reduceSub, Int.reduceMul, Int.reduceNeg, Int.reduceLT, Int.reduceLE, Int.reduceEq, gd_t, gd_T, ↓bd_m, ↓lh_t, ↓on_m, ↓ec_m, ↓reduceIte, if_true, if_false, true_and, and_true, false_and, and_false, true_or, or_true, false_or, or_false, Bool.false_eq_true, b2i_0, b2i_1, bl_0, bl_1, bl_b2, not_true_eq_false, not_false_eq_true, B_X0_rise_15, B_X8_rise_5, B_X8_rise_15, B_X8_rise_50, qF, l1, l2, ts.k, fails_eq ts.k, Nat.reduceEqDiff]
        exact Ok2.some bad
  · rw [b2_f q1] at l1
    rw [e4 q1]
    by_cases q2 : b = -1
    · have qT : (b = -1) = True := eq_true q2
      simp (disch := omega) only [i_lit, i_neg, i_add, i_sub, i_mul, i_ofNat, i_div, i_le, i_lt, i_eq, i_ix, i_inb, i_max, i_min, e_rem, j_lit, j_i, Int.reduceToNat, Int.reduceAdd, Int.reduceSub, Int.reduceMul, Int.reduceNeg, Int.reduceLT, Int.reduceLE, Int.reduceEq, gd_t, gd_T, ↓bd_m, ↓lh_t, ↓on_m, ↓ec_m, ↓reduceIte, if_true, if_false, true_and, and_true, false_and, and_false, true_or, or_true, false_or, or_false, Bool.false_eq_true, b2i_0, b2i_1, bl_0, bl_1, bl_b2, not_true_eq_false, not_false_eq_true, B_X0_rise_15, B_X8_rise_5, B_X8_rise_15, B_X8_rise_50, qT, l1, ts.k, fails_eq ts.k, Nat.reduceEqDiff]
      exact Ok2.some bad
    · have qF : (b = -1) = False := eq_false q2
      simp (disch := omega) only [i_lit, i_neg, i_add, i_sub, i_mul, i_ofNat, i_div, i_le, i_lt, i_eq, i_ix, i_inb, i_max, i_min, e_rem, j_lit, j_i, Int.reduceToNat, Int.reduceAdd, Int.reduceSub, Int.reduceMul, Int.reduceNeg, Int.reduceLT, Int.reduceLE, Int.reduceEq, gd_t, gd_T, ↓bd_m, ↓lh_t, ↓on_m, ↓ec_m, ↓reduceIte, if_true, if_false, true_and, and_true, false_and, and_false, true_or, or_true, false_or, or_false, Bool.false_eq_true, b2i_0, b2i_1, bl_0, bl_1, bl_b2, not_true_eq_false, not_false_eq_true, B_X0_rise_15, B_X8_rise_5, B_X8_rise_15, B_X8_rise_50, qF, l1, ts.k, fails_eq ts.k, Nat.reduceEqDiff]
      exact Ok2.some bad
