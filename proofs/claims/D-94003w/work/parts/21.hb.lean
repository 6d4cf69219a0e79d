/-! PURE HB: leads -/
set_option maxRecDepth 100000
noncomputable def bP (p : Prop) : Int32 := @ite Int32 p (Classical.propDecidable p) (iI 1) (iI 0)
theorem bP_t {p : Prop} (h : p) : bP p = iI 1 := by unfold bP; exact if_pos h
theorem bP_f {p : Prop} (h : ¬ p) : bP p = iI 0 := by unfold bP; exact if_neg h
theorem ok1_eq {α : Type} {x : Option α} {v : α} (h : Ok1 x (fun r => r = v)) : x = some v := by
  obtain ⟨r, h1, h2⟩ := h
  rw [h1, h2]
def upP (τ : Nat → Int) (s y : Int) : Prop := bo τ s (y - 1) < bo τ s y
theorem goesUp_eq {o : Nat → Nat} {t : Nat} {h : AH} {x : Nat} {τ : Nat → Int} {υ : Nat → Int64} {e : Nat → Nat} {el : Nat → Nat → Nat} {lw : Nat} (c : CrP o t h x τ υ e el lw) {z : Nat} (cs : CS h z) (hz : hR h z 0 = some x) {s y : Int} (hs : 0 ≤ s ∧ s < 4) (hy : 1 ≤ y ∧ y ≤ 3000) : F_X1_goesUp h z (iI s) (iI y) = some (bP (upP τ s y)) := by
  have a1 := at_eq c (s := s) (y := y) hs (by omega)
  have a2 := at_eq c (s := s) (y := y - 1) hs (by omega)
  have g1 := bo_rng c.rg (s := s) (y := y) hs (by omega)
  have g2 := bo_rng c.rg (s := s) (y := y - 1) hs (by omega)
  unfold bo at g1 g2
  unfold F_X1_goesUp
  by_cases q : τ (1885 + 4 * (y % 256) + s).toNat ≤ τ (1885 + 4 * ((y - 1) % 256) + s).toNat
  · rw [bP_f (by unfold upP bo; omega)]
    simp (disch := omega) only [i_lit, i_neg, i_add, i_sub, i_mul, i_ofNat, i_div, i_le, i_lt, i_eq, i_ix, i_inb, i_max, i_min, e_rem, j_lit, j_i, Int.reduceToNat, Int.reduceAdd, Int.reduceSub, Int.reduceMul, Int.reduceNeg, Int.reduceLT, Int.reduceLE, Int.reduceEq, gd_t, gd_T, ↓bd_m, ↓lh_t, ↓on_m, ↓ec_m, ↓reduceIte, if_true, if_false, true_and, and_true, false_and, and_false, true_or, or_true, false_or, or_false, Bool.false_eq_true, b2i_0, b2i_1, bl_0, bl_1, bl_b2, not_true_eq_false, not_false_eq_true, B_X1_goesUp_28, cs.k, hz, c.k, a1, a2, q]
  · rw [bP_t (by unfold upP bo; omega)]
    simp (disch := omega) only [i_lit, i_neg, i_add, i_sub, i_mul, i_ofNat, i_div, i_le, i_lt, i_eq, i_ix, i_inb, i_max, i_min, e_rem, j_lit, j_i, Int.reduceToNat, Int.reduceAdd, Int.reduceSub, Int.reduceMul, Int.reduceNeg, Int.reduceLT, Int.reduceLE, Int.reduceEq, gd_t, gd_T, ↓bd_m, ↓lh_t, ↓on_m, ↓ec_m, ↓reduceIte, if_true, if_false, true_and, and_true, false_and, and_false, true_or, or_true, false_or, or_false, Bool.false_eq_true, b2i_0, b2i_1, bl_0, bl_1, bl_b2, not_true_eq_false, not_false_eq_true, B_X1_goesUp_28, cs.k, hz, c.k, a1, a2, q]
theorem rose_eq {h : AH} {m : Nat} {τ : Nat → Int} (t : TN h m τ) (rg : RG τ) {s y : Int} (hs : 0 ≤ s ∧ s < 4) (hy : 1 ≤ y ∧ y ≤ 3000) : F_X8_rose h m (iI s) (iI y) = some (bP (upP τ s y)) := by
  have a1 := boardOf_eq t (s := s) (y := y) hs (by omega)
  have a2 := boardOf_eq t (s := s) (y := y - 1) hs (by omega)
  have g1 := bo_rng rg (s := s) (y := y) hs (by omega)
  have g2 := bo_rng rg (s := s) (y := y - 1) hs (by omega)
  have ts := t.s
  unfold bo at g1 g2
  unfold F_X8_rose
  by_cases q : τ (1885 + 4 * (y % 256) + s).toNat ≤ τ (1885 + 4 * ((y - 1) % 256) + s).toNat
  · rw [bP_f (by unfold upP bo; omega)]
    simp (disch := omega) only [i_lit, i_neg, i_add, i_sub, i_mul, i_ofNat, i_div, i_le, i_lt, i_eq, i_ix, i_inb, i_max, i_min, e_rem, j_lit, j_i, Int.reduceToNat, Int.reduceAdd, Int.reduceSub, Int.reduceMul, Int.reduceNeg, Int.reduceLT, Int.reduceLE, Int.reduceEq, gd_t, gd_T, ↓bd_m, ↓lh_t, ↓on_m, ↓ec_m, ↓reduceIte, if_true, if_false, true_and, and_true, false_and, and_false, true_or, or_true, false_or, or_false, Bool.false_eq_true, b2i_0, b2i_1, bl_0, bl_1, bl_b2, not_true_eq_false, not_false_eq_true, B_X8_rose_22, ts.k, a1, a2, q]
  · rw [bP_t (by unfold upP bo; omega)]
    simp (disch := omega) only [i_lit, i_neg, i_add, i_sub, i_mul, i_ofNat, i_div, i_le, i_lt, i_eq, i_ix, i_inb, i_max, i_min, e_rem, j_lit, j_i, Int.reduceToNat, Int.reduceAdd, Int.reduceSub, Int.reduceMul, Int.reduceNeg, Int.reduceLT, Int.reduceLE, Int.reduceEq, gd_t, gd_T, ↓bd_m, ↓lh_t, ↓on_m, ↓ec_m, ↓reduceIte, if_true, if_false, true_and, and_true, false_and, and_false, true_or, or_true, false_or, or_false, Bool.false_eq_true, b2i_0, b2i_1, bl_0, bl_1, bl_b2, not_true_eq_false, not_false_eq_true, B_X8_rose_22, ts.k, a1, a2, q]
def leadP (τ : Nat → Int) (s y : Int) : Prop := upP τ s y ∧ ∀ i : Nat, (i : Int) < τ 0 → ¬ upP τ i (y - 1) ∧ ((i : Int) = s ∨ ¬ upP τ i y)
theorem isLead_C {o : Nat → Nat} {t : Nat} {h : AH} {x : Nat} {τ : Nat → Int} {υ : Nat → Int64} {e : Nat → Nat} {el : Nat → Nat → Nat} {lw : Nat} (c : CrP o t h x τ υ e el lw) {z : Nat} (cs : CS h z) (hz : hR h z 0 = some x) {s y : Int} (hs : 0 ≤ s ∧ s < τ 0) (hy : 2 ≤ y ∧ y ≤ 3000) : F_X1_isLead h z (iI s) (iI y) = some (bP (leadP τ s y)) := by
  have hn4 := c.rg.n
  have e0 := goesUp_eq c cs hz (s := s) (y := y) (by omega) (by omega)
  have n10F : (iI 1 = iI 0) = False := eq_false (by decide)
  unfold F_X1_isLead
  by_cases q0 : upP τ s y
  · rw [bP_t q0] at e0
    simp (disch := omega) only [i_lit, i_neg, i_add, i_sub, i_mul, i_ofNat, i_div, i_le, i_lt, i_eq, i_ix, i_inb, i_max, i_min, e_rem, j_lit, j_i, Int.reduceToNat, Int.reduceAdd, Int.reduceSub, Int.reduceMul, Int.reduceNeg, Int.reduceLT, Int.reduceLE, Int.reduceEq, gd_t, gd_T, ↓bd_m, ↓lh_t, ↓on_m, ↓ec_m, ↓reduceIte, if_true, if_false, true_and, and_true, false_and, and_false, true_or, or_true, false_or, or_false, Bool.false_eq_true, b2i_0, b2i_1, bl_0, bl_1, bl_b2, not_true_eq_false, not_false_eq_true, cs.k, e0, n10F]
    refine ok1_eq ?_
    unfold G_X1_isLead_13
    refine lp_ok (fun st k => ∃ i : Nat, st = (z, iI s, iI y, iI i) ∧ (i : Int) ≤ τ 0 ∧ k = (τ 0 - i).toNat ∧ ∀ j : Nat, j < i → ¬ upP τ j (y - 1) ∧ ((j : Int) = s ∨ ¬ upP τ j y)) ?_ fuel (τ 0).toNat _ ⟨0, rfl, by omega, by omega, fun j hj => by omega⟩ (lt_fuel (by omega))
    rintro self st k ⟨i, rfl, h1, rfl, hP⟩ ih
    unfold L_X1_isLead_13
    by_cases ho : τ 0 ≤ (i : Int)
    · simp (disch := omega) only [i_lit, i_neg, i_add, i_sub, i_mul, i_ofNat, i_div, i_le, i_lt, i_eq, i_ix, i_inb, i_max, i_min, e_rem, j_lit, j_i, Int.reduceToNat, Int.reduceAdd, Int.reduceSub, Int.reduceMul, Int.reduceNeg, Int.reduceLT, Int.reduceLE, Int.reduceEq, gd_t, gd_T, ↓bd_m, ↓lh_t, ↓on_m, ↓ec_m, ↓reduceIte, if_true, if_false, true_and, and_true, false_and, and_false, true_or, or_true, false_or, or_false, Bool.false_eq_true, b2i_0, b2i_1, bl_0, bl_1, bl_b2, not_true_eq_false, not_false_eq_true, B_X1_isLead_13, B_X1_isLead_57, cs.k, hz, c.k, many_eq c, ho]
      exact Ok1.some (bP_t ⟨q0, fun j hj => hP j (by omega)⟩).symm
    · have e1 := goesUp_eq c cs hz (s := (i : Int)) (y := y) (by omega) (by omega)
      have e2 := goesUp_eq c cs hz (s := (i : Int)) (y := y - 1) (by omega) (by omega)
      have nx := fun hq => ih (z, iI s, iI y, iI ((i + 1 : Nat) : Int)) (τ 0 - ((i + 1 : Nat) : Int)).toNat (by omega) ⟨i + 1, rfl, by omega, rfl, hq⟩
      rw [show (((i + 1 : Nat)) : Int) = (i : Int) + 1 by omega] at nx
      have ext : (¬ upP τ i (y - 1) ∧ ((i : Int) = s ∨ ¬ upP τ i y)) → ∀ j : Nat, j < i + 1 → ¬ upP τ j (y - 1) ∧ ((j : Int) = s ∨ ¬ upP τ j y) := fun w j hj => by
        by_cases q : j = i
        · subst q; exact w
        · exact hP j (by omega)
      have no : ¬ (¬ upP τ i (y - 1) ∧ ((i : Int) = s ∨ ¬ upP τ i y)) → bP (leadP τ s y) = iI 0 := fun w => bP_f (fun u => w (u.2 i (by omega)))
      by_cases qs : (i : Int) = s
      · have qT : ((i : Int) = s) = True := eq_true qs
        by_cases q2 : upP τ i (y - 1)
        · rw [bP_t q2] at e2
          simp (disch := omega) only [i_lit, i_neg, i_add, i_sub, i_mul, i_ofNat, i_div, i_le, i_lt, i_eq, i_ix, i_inb, i_max, i_min, e_rem, j_lit, j_i, Int.reduceToNat, Int.reduceAdd, Int.reduceSub, Int.reduceMul, Int.reduceNeg, Int.reduceLT, Int.reduceLE, Int.reduceEq, gd_t, gd_T, ↓bd_m, ↓lh_t, ↓on_m, ↓ec_m, ↓reduceIte, if_true, if_false, true_and, and_true, false_and, and_false, true_or, or_true, false_or, or_false, Bool.false_eq_true, b2i_0, b2i_1, bl_0, bl_1, bl_b2, not_true_eq_false, not_false_eq_true, B_X1_isLead_13, B_X1_isLead_38, B_X1_isLead_49, cs.k, hz, c.k, many_eq c, ho, qT, e2, n10F]
          exact Ok1.some (no (fun w => w.1 q2)).symm
        · rw [bP_f q2] at e2
          simp (disch := omega) only [i_lit, i_neg, i_add, i_sub, i_mul, i_ofNat, i_div, i_le, i_lt, i_eq, i_ix, i_inb, i_max, i_min, e_rem, j_lit, j_i, Int.reduceToNat, Int.reduceAdd, Int.reduceSub, Int.reduceMul, Int.reduceNeg, Int.reduceLT, Int.reduceLE, Int.reduceEq, gd_t, gd_T, ↓bd_m, ↓lh_t, ↓on_m, ↓ec_m, ↓reduceIte, if_true, if_false, true_and, and_true, false_and, and_false, true_or, or_true, false_or, or_false, Bool.false_eq_true, b2i_0, b2i_1, bl_0, bl_1, bl_b2, not_true_eq_false, not_false_eq_true, B_X1_isLead_13, B_X1_isLead_38, cs.k, hz, c.k, many_eq c, ho, qT, e2]
          exact nx (ext ⟨q2, Or.inl qs⟩)
      · have qT : ((i : Int) = s) = False := eq_false qs
        by_cases q1 : upP τ i y
        · rw [bP_t q1] at e1
          simp (disch := omega) only [i_lit, i_neg, i_add, i_sub, i_mul, i_ofNat, i_div, i_le, i_lt, i_eq, i_ix, i_inb, i_max, i_min, e_rem, j_lit, j_i, Int.reduceToNat, Int.reduceAdd, Int.reduceSub, Int.reduceMul, Int.reduceNeg, Int.reduceLT, Int.reduceLE, Int.reduceEq, gd_t, gd_T, ↓bd_m, ↓lh_t, ↓on_m, ↓ec_m, ↓reduceIte, if_true, if_false, true_and, and_true, false_and, and_false, true_or, or_true, false_or, or_false, Bool.false_eq_true, b2i_0, b2i_1, bl_0, bl_1, bl_b2, not_true_eq_false, not_false_eq_true, B_X1_isLead_13, B_X1_isLead_49, cs.k, hz, c.k, many_eq c, ho, qT, e1, n10F]
          exact Ok1.some (no (fun w => w.2.elim qs (fun u => u q1))).symm
        · rw [bP_f q1] at e1
          by_cases q2 : upP τ i (y - 1)
          · rw [bP_t q2] at e2
            simp (disch := omega) only [i_lit, i_neg, i_add, i_sub, i_mul, i_ofNat, i_div, i_le, i_lt, i_eq, i_ix, i_inb, i_max, i_min, e_rem, j_lit, j_i, Int.reduceToNat, Int.reduceAdd, Int.reduceSub, Int.reduceMul, Int.reduceNeg, Int.reduceLT, Int.reduceLE, Int.reduceEq, gd_t, gd_T, ↓bd_m, ↓lh_t, ↓on_m, ↓ec_m, ↓reduceIte, if_true, if_false, true_and, and_true, false_and, and_false, true_or, or_true, false_or, or_false, Bool.false_eq_true, b2i_0, b2i_1, bl_0, bl_1, bl_b2, not_true_eq_false, not_false_eq_true, B_X1_isLead_13, B_X1_isLead_38, B_X1_isLead_49, cs.k, hz, c.k, many_eq c, ho, qT, e1, e2, n10F]
            exact Ok1.some (no (fun w => w.1 q2)).symm
          · rw [bP_f q2] at e2
            simp (disch := omega) only [i_lit, i_neg, i_add, i_sub, i_mul, i_ofNat, i_div, i_le, i_lt, i_eq, i_ix, i_inb, i_max, i_min, e_rem, j_lit, j_i, Int.reduceToNat, Int.reduceAdd, Int.reduceSub, Int.reduceMul, Int.reduceNeg, Int.reduceLT, Int.reduceLE, Int.reduceEq, gd_t, gd_T, ↓bd_m, ↓lh_t, ↓on_m, ↓ec_m, ↓reduceIte, if_true, if_false, true_and, and_true, false_and, and_false, true_or, or_true, false_or, or_false, Bool.false_eq_true, b2i_0, b2i_1, bl_0, bl_1, bl_b2, not_true_eq_false, not_false_eq_true, B_X1_isLead_13, B_X1_isLead_38, cs.k, hz, c.k, many_eq c, ho, qT, e1, e2]
            exact nx (ext ⟨q2, Or.inr q1⟩)
  · rw [bP_f q0] at e0
    rw [bP_f (fun u => q0 u.1)]
    simp (disch := omega) only [i_lit, i_neg, i_add, i_sub, i_mul, i_ofNat, i_div, i_le, i_lt, i_eq, i_ix, i_inb, i_max, i_min, e_rem, j_lit, j_i, Int.reduceToNat, Int.reduceAdd, Int.reduceSub, Int.reduceMul, Int.reduceNeg, Int.reduceLT, Int.reduceLE, Int.reduceEq, gd_t, gd_T, ↓bd_m, ↓lh_t, ↓on_m, ↓ec_m, ↓reduceIte, if_true, if_false, true_and, and_true, false_and, and_false, true_or, or_true, false_or, or_false, Bool.false_eq_true, b2i_0, b2i_1, bl_0, bl_1, bl_b2, not_true_eq_false, not_false_eq_true, cs.k, e0]
theorem isLead_T {h : AH} {m : Nat} {τ : Nat → Int} (t : TN h m τ) (rg : RG τ) {s y : Int} (hs : 0 ≤ s ∧ s < τ 0) (hy : 2 ≤ y ∧ y ≤ 3000) (hb : max 0 (τ 2 - 256) ≤ y - 2 ∧ y - 2 ≤ τ 2 - 1) : F_X8_isLead h m (iI s) (iI y) = some (bP (leadP τ s y)) := by
  have hn4 := rg.n
  have ts := t.s
  have ti := t.i
  have e0 := rose_eq t rg (s := s) (y := y) (by omega) (by omega)
  have eb := isBoardT_eq t rg.h (y := y - 2) (by omega)
  rw [b2_t hb] at eb
  have n10F : (iI 1 = iI 0) = False := eq_false (by decide)
  have run : ∀ f : Int32, ((f = iI 1 ∧ upP τ s y) ∨ (f = iI 0 ∧ ¬ leadP τ s y)) → G_X8_isLead_28 h m (iI s) (iI y) f (iI 0) = some (bP (leadP τ s y)) := by
    intro f hf
    refine ok1_eq ?_
    unfold G_X8_isLead_28
    refine lp_ok (fun st k => ∃ (i : Nat) (f : Int32), st = (m, iI s, iI y, f, iI i) ∧ (i : Int) ≤ τ 0 ∧ k = (τ 0 - i).toNat ∧ ((f = iI 1 ∧ upP τ s y ∧ ∀ j : Nat, j < i → ¬ upP τ j (y - 1) ∧ ((j : Int) = s ∨ ¬ upP τ j y)) ∨ (f = iI 0 ∧ ¬ leadP τ s y))) ?_ fuel (τ 0).toNat _ ⟨0, f, rfl, by omega, by omega, hf.elim (fun w => Or.inl ⟨w.1, w.2, fun j hj => by omega⟩) Or.inr⟩ (lt_fuel (by omega))
    clear hf f
    rintro self st k ⟨i, f, rfl, h1, rfl, hP⟩ ih
    unfold L_X8_isLead_28
    by_cases ho : τ 0 ≤ (i : Int)
    · rcases hP with ⟨rfl, q0, hP⟩ | ⟨rfl, hP⟩
      · simp (disch := omega) only [i_lit, i_neg, i_add, i_sub, i_mul, i_ofNat, i_div, i_le, i_lt, i_eq, i_ix, i_inb, i_max, i_min, e_rem, j_lit, j_i, Int.reduceToNat, Int.reduceAdd, Int.reduceSub, Int.reduceMul, Int.reduceNeg, Int.reduceLT, Int.reduceLE, Int.reduceEq, gd_t, gd_T, ↓bd_m, ↓lh_t, ↓on_m, ↓ec_m, ↓reduceIte, if_true, if_false, true_and, and_true, false_and, and_false, true_or, or_true, false_or, or_false, Bool.false_eq_true, b2i_0, b2i_1, bl_0, bl_1, bl_b2, not_true_eq_false, not_false_eq_true, B_X8_isLead_28, B_X8_isLead_83, ts.k, ts.r1, ts.k1, ts.l1, ts.r2, ts.k2, ts.l2, ts.r3, ts.k3, ts.l3, ts.r4, ts.k4, ts.l4, ts.r5, ts.k5, ts.l5, ts.r6, ts.k6, ts.l6, ts.r7, ts.k7, ts.l7, ts.r8, ts.k8, ts.l8, ts.r9, ts.k9, ts.l9, ts.r10, ts.k10, ts.l10, ts.r11, ts.k11, ts.l11, ts.r12, ts.k12, ts.l12, ts.r13, ts.k13, ts.l13, ts.r14, ts.k14, ts.l14, ts.r15, ts.k15, ts.l15, ts.r16, ts.k16, ts.l16, ts.r17, ts.k17, ts.l17, ts.r18, ts.k18, ts.l18, ts.r19, ts.k19, ts.l19, ts.r20, ts.k20, ts.l20, ti, ho]
        exact Ok1.some (bP_t ⟨q0, fun j hj => hP j (by omega)⟩).symm
      · simp (disch := omega) only [i_lit, i_neg, i_add, i_sub, i_mul, i_ofNat, i_div, i_le, i_lt, i_eq, i_ix, i_inb, i_max, i_min, e_rem, j_lit, j_i, Int.reduceToNat, Int.reduceAdd, Int.reduceSub, Int.reduceMul, Int.reduceNeg, Int.reduceLT, Int.reduceLE, Int.reduceEq, gd_t, gd_T, ↓bd_m, ↓lh_t, ↓on_m, ↓ec_m, ↓reduceIte, if_true, if_false, true_and, and_true, false_and, and_false, true_or, or_true, false_or, or_false, Bool.false_eq_true, b2i_0, b2i_1, bl_0, bl_1, bl_b2, not_true_eq_false, not_false_eq_true, B_X8_isLead_28, B_X8_isLead_83, ts.k, ts.r1, ts.k1, ts.l1, ts.r2, ts.k2, ts.l2, ts.r3, ts.k3, ts.l3, ts.r4, ts.k4, ts.l4, ts.r5, ts.k5, ts.l5, ts.r6, ts.k6, ts.l6, ts.r7, ts.k7, ts.l7, ts.r8, ts.k8, ts.l8, ts.r9, ts.k9, ts.l9, ts.r10, ts.k10, ts.l10, ts.r11, ts.k11, ts.l11, ts.r12, ts.k12, ts.l12, ts.r13, ts.k13, ts.l13, ts.r14, ts.k14, ts.l14, ts.r15, ts.k15, ts.l15, ts.r16, ts.k16, ts.l16, ts.r17, ts.k17, ts.l17, ts.r18, ts.k18, ts.l18, ts.r19, ts.k19, ts.l19, ts.r20, ts.k20, ts.l20, ti, ho]
        exact Ok1.some (bP_f hP).symm
    · rcases hP with ⟨rfl, q0, hP⟩ | ⟨rfl, hP⟩
      · have e1 := rose_eq t rg (s := (i : Int)) (y := y) (by omega) (by omega)
        have e2 := rose_eq t rg (s := (i : Int)) (y := y - 1) (by omega) (by omega)
        have nx := fun f hq => ih (m, iI s, iI y, f, iI ((i + 1 : Nat) : Int)) (τ 0 - ((i + 1 : Nat) : Int)).toNat (by omega) ⟨i + 1, f, rfl, by omega, rfl, hq⟩
        rw [show (((i + 1 : Nat)) : Int) = (i : Int) + 1 by omega] at nx
        have ext : (¬ upP τ i (y - 1) ∧ ((i : Int) = s ∨ ¬ upP τ i y)) → ∀ j : Nat, j < i + 1 → ¬ upP τ j (y - 1) ∧ ((j : Int) = s ∨ ¬ upP τ j y) := fun w j hj => by
          by_cases q : j = i
          · subst q; exact w
          · exact hP j (by omega)
        have no : ¬ (¬ upP τ i (y - 1) ∧ ((i : Int) = s ∨ ¬ upP τ i y)) → ¬ leadP τ s y := fun w u => w (u.2 i (by omega))
        by_cases q2 : upP τ i (y - 1)
        · rw [bP_t q2] at e2
          simp (disch := omega) only [i_lit, i_neg, i_add, i_sub, i_mul, i_ofNat, i_div, i_le, i_lt, i_eq, i_ix, i_inb, i_max, i_min, e_rem, j_lit, j_i, Int.reduceToNat, Int.reduceAdd, Int.reduceSub, Int.reduceMul, Int.reduceNeg, Int.reduceLT, Int.reduceLE, Int.reduceEq, gd_t, gd_T, ↓bd_m, ↓lh_t, ↓on_m, ↓ec_m, ↓reduceIte, if_true, if_false, true_and, and_true, false_and, and_false, true_or, or_true, false_or, or_false, Bool.false_eq_true, b2i_0, b2i_1, bl_0, bl_1, bl_b2, not_true_eq_false, not_false_eq_true, B_X8_isLead_28, B_X8_isLead_75, B_X8_isLead_76, ts.k, ts.r1, ts.k1, ts.l1, ts.r2, ts.k2, ts.l2, ts.r3, ts.k3, ts.l3, ts.r4, ts.k4, ts.l4, ts.r5, ts.k5, ts.l5, ts.r6, ts.k6, ts.l6, ts.r7, ts.k7, ts.l7, ts.r8, ts.k8, ts.l8, ts.r9, ts.k9, ts.l9, ts.r10, ts.k10, ts.l10, ts.r11, ts.k11, ts.l11, ts.r12, ts.k12, ts.l12, ts.r13, ts.k13, ts.l13, ts.r14, ts.k14, ts.l14, ts.r15, ts.k15, ts.l15, ts.r16, ts.k16, ts.l16, ts.r17, ts.k17, ts.l17, ts.r18, ts.k18, ts.l18, ts.r19, ts.k19, ts.l19, ts.r20, ts.k20, ts.l20, ti, ho, e2, n10F]
          exact nx _ (Or.inr ⟨rfl, no (fun w => w.1 q2)⟩)
        · rw [bP_f q2] at e2
          by_cases qs : (i : Int) = s
          · have qT : ((i : Int) = s) = True := eq_true qs
            simp (disch := omega) only [i_lit, i_neg, i_add, i_sub, i_mul, i_ofNat, i_div, i_le, i_lt, i_eq, i_ix, i_inb, i_max, i_min, e_rem, j_lit, j_i, Int.reduceToNat, Int.reduceAdd, Int.reduceSub, Int.reduceMul, Int.reduceNeg, Int.reduceLT, Int.reduceLE, Int.reduceEq, gd_t, gd_T, ↓bd_m, ↓lh_t, ↓on_m, ↓ec_m, ↓reduceIte, if_true, if_false, true_and, and_true, false_and, and_false, true_or, or_true, false_or, or_false, Bool.false_eq_true, b2i_0, b2i_1, bl_0, bl_1, bl_b2, not_true_eq_false, not_false_eq_true, B_X8_isLead_28, B_X8_isLead_71, B_X8_isLead_76, ts.k, ts.r1, ts.k1, ts.l1, ts.r2, ts.k2, ts.l2, ts.r3, ts.k3, ts.l3, ts.r4, ts.k4, ts.l4, ts.r5, ts.k5, ts.l5, ts.r6, ts.k6, ts.l6, ts.r7, ts.k7, ts.l7, ts.r8, ts.k8, ts.l8, ts.r9, ts.k9, ts.l9, ts.r10, ts.k10, ts.l10, ts.r11, ts.k11, ts.l11, ts.r12, ts.k12, ts.l12, ts.r13, ts.k13, ts.l13, ts.r14, ts.k14, ts.l14, ts.r15, ts.k15, ts.l15, ts.r16, ts.k16, ts.l16, ts.r17, ts.k17, ts.l17, ts.r18, ts.k18, ts.l18, ts.r19, ts.k19, ts.l19, ts.r20, ts.k20, ts.l20, ti, ho, e2, n10F, qT]
            exact nx _ (Or.inl ⟨rfl, q0, ext ⟨q2, Or.inl qs⟩⟩)
          · have qT : ((i : Int) = s) = False := eq_false qs
            by_cases q1 : upP τ i y
            · rw [bP_t q1] at e1
              simp (disch := omega) only [i_lit, i_neg, i_add, i_sub, i_mul, i_ofNat, i_div, i_le, i_lt, i_eq, i_ix, i_inb, i_max, i_min, e_rem, j_lit, j_i, Int.reduceToNat, Int.reduceAdd, Int.reduceSub, Int.reduceMul, Int.reduceNeg, Int.reduceLT, Int.reduceLE, Int.reduceEq, gd_t, gd_T, ↓bd_m, ↓lh_t, ↓on_m, ↓ec_m, ↓reduceIte, if_true, if_false, true_and, and_true, false_and, and_false, true_or, or_true, false_or, or_false, Bool.false_eq_true, b2i_0, b2i_1, bl_0, bl_1, bl_b2, not_true_eq_false, not_false_eq_true, B_X8_isLead_28, B_X8_isLead_75, B_X8_isLead_76, ts.k, ts.r1, ts.k1, ts.l1, ts.r2, ts.k2, ts.l2, ts.r3, ts.k3, ts.l3, ts.r4, ts.k4, ts.l4, ts.r5, ts.k5, ts.l5, ts.r6, ts.k6, ts.l6, ts.r7, ts.k7, ts.l7, ts.r8, ts.k8, ts.l8, ts.r9, ts.k9, ts.l9, ts.r10, ts.k10, ts.l10, ts.r11, ts.k11, ts.l11, ts.r12, ts.k12, ts.l12, ts.r13, ts.k13, ts.l13, ts.r14, ts.k14, ts.l14, ts.r15, ts.k15, ts.l15, ts.r16, ts.k16, ts.l16, ts.r17, ts.k17, ts.l17, ts.r18, ts.k18, ts.l18, ts.r19, ts.k19, ts.l19, ts.r20, ts.k20, ts.l20, ti, ho, e1, e2, n10F, qT]
              exact nx _ (Or.inr ⟨rfl, no (fun w => w.2.elim qs (fun u => u q1))⟩)
            · rw [bP_f q1] at e1
              simp (disch := omega) only [i_lit, i_neg, i_add, i_sub, i_mul, i_ofNat, i_div, i_le, i_lt, i_eq, i_ix, i_inb, i_max, i_min, e_rem, j_lit, j_i, Int.reduceToNat, Int.reduceAdd, Int.reduceSub, Int.reduceMul, Int.reduceNeg, Int.reduceLT, Int.reduceLE, Int.reduceEq, gd_t, gd_T, ↓bd_m, ↓lh_t, ↓on_m, ↓ec_m, ↓reduceIte, if_true, if_false, true_and, and_true, false_and, and_false, true_or, or_true, false_or, or_false, Bool.false_eq_true, b2i_0, b2i_1, bl_0, bl_1, bl_b2, not_true_eq_false, not_false_eq_true, B_X8_isLead_28, B_X8_isLead_71, B_X8_isLead_76, ts.k, ts.r1, ts.k1, ts.l1, ts.r2, ts.k2, ts.l2, ts.r3, ts.k3, ts.l3, ts.r4, ts.k4, ts.l4, ts.r5, ts.k5, ts.l5, ts.r6, ts.k6, ts.l6, ts.r7, ts.k7, ts.l7, ts.r8, ts.k8, ts.l8, ts.r9, ts.k9, ts.l9, ts.r10, ts.k10, ts.l10, ts.r11, ts.k11, ts.l11, ts.r12, ts.k12, ts.l12, ts.r13, ts.k13, ts.l13, ts.r14, ts.k14, ts.l14, ts.r15, ts.k15, ts.l15, ts.r16, ts.k16, ts.l16, ts.r17, ts.k17, ts.l17, ts.r18, ts.k18, ts.l18, ts.r19, ts.k19, ts.l19, ts.r20, ts.k20, ts.l20, ti, ho, e1, e2, n10F, qT]
              exact nx _ (Or.inl ⟨rfl, q0, ext ⟨q2, Or.inr q1⟩⟩)
      · simp (disch := omega) only [i_lit, i_neg, i_add, i_sub, i_mul, i_ofNat, i_div, i_le, i_lt, i_eq, i_ix, i_inb, i_max, i_min, e_rem, j_lit, j_i, Int.reduceToNat, Int.reduceAdd, Int.reduceSub, Int.reduceMul, Int.reduceNeg, Int.reduceLT, Int.reduceLE, Int.reduceEq, gd_t, gd_T, ↓bd_m, ↓lh_t, ↓on_m, ↓ec_m, ↓reduceIte, if_true, if_false, true_and, and_true, false_and, and_false, true_or, or_true, false_or, or_false, Bool.false_eq_true, b2i_0, b2i_1, bl_0, bl_1, bl_b2, not_true_eq_false, not_false_eq_true, B_X8_isLead_28, B_X8_isLead_83, ts.k, ts.r1, ts.k1, ts.l1, ts.r2, ts.k2, ts.l2, ts.r3, ts.k3, ts.l3, ts.r4, ts.k4, ts.l4, ts.r5, ts.k5, ts.l5, ts.r6, ts.k6, ts.l6, ts.r7, ts.k7, ts.l7, ts.r8, ts.k8, ts.l8, ts.r9, ts.k9, ts.l9, ts.r10, ts.k10, ts.l10, ts.r11, ts.k11, ts.l11, ts.r12, ts.k12, ts.l12, ts.r13, ts.k13, ts.l13, ts.r14, ts.k14, ts.l14, ts.r15, ts.k15, ts.l15, ts.r16, ts.k16, ts.l16, ts.r17, ts.k17, ts.l17, ts.r18, ts.k18, ts.l18, ts.r19, ts.k19, ts.l19, ts.r20, ts.k20, ts.l20, ti, ho]
        exact Ok1.some (bP_f hP).symm
  unfold F_X8_isLead
  by_cases q0 : upP τ s y
  · rw [bP_t q0] at e0
    simp (disch := omega) only [i_lit, i_neg, i_add, i_sub, i_mul, i_ofNat, i_div, i_le, i_lt, i_eq, i_ix, i_inb, i_max, i_min, e_rem, j_lit, j_i, Int.reduceToNat, Int.reduceAdd, Int.reduceSub, Int.reduceMul, Int.reduceNeg, Int.reduceLT, Int.reduceLE, Int.reduceEq, gd_t, gd_T, ↓bd_m, ↓lh_t, ↓on_m, ↓ec_m, ↓reduceIte, if_true, if_false, true_and, and_true, false_and, and_false, true_or, or_true, false_or, or_false, Bool.false_eq_true, b2i_0, b2i_1, bl_0, bl_1, bl_b2, not_true_eq_false, not_false_eq_true, ts.k, eb, e0, n10F, B_X8_isLead_24]
    exact run _ (Or.inl ⟨rfl, q0⟩)
  · rw [bP_f q0] at e0
    simp (disch := omega) only [i_lit, i_neg, i_add, i_sub, i_mul, i_ofNat, i_div, i_le, i_lt, i_eq, i_ix, i_inb, i_max, i_min, e_rem, j_lit, j_i, Int.reduceToNat, Int.reduceAdd, Int.reduceSub, Int.reduceMul, Int.reduceNeg, Int.reduceLT, Int.reduceLE, Int.reduceEq, gd_t, gd_T, ↓bd_m, ↓lh_t, ↓on_m, ↓ec_m, ↓reduceIte, if_true, if_false, true_and, and_true, false_and, and_false, true_or, or_true, false_or, or_false, Bool.false_eq_true, b2i_0, b2i_1, bl_0, bl_1, bl_b2, not_true_eq_false, not_false_eq_true, ts.k, eb, e0, B_X8_isLead_23, B_X8_isLead_24]
    exact run _ (Or.inr ⟨rfl, fun u => q0 u.1⟩)
def folI (τ : Nat → Int) (s y : Int) (i : Nat) : Prop := (i : Int) = s ∨ ∃ k : Nat, 1 ≤ k ∧ k ≤ 6 ∧ upP τ i (y + k)
def folP (τ : Nat → Int) (s y : Int) : Prop := ∀ i : Nat, (i : Int) < τ 0 → folI τ s y i
theorem isFol_C {o : Nat → Nat} {t : Nat} {h : AH} {x : Nat} {τ : Nat → Int} {υ : Nat → Int64} {e : Nat → Nat} {el : Nat → Nat → Nat} {lw : Nat} (c : CrP o t h x τ υ e el lw) {z : Nat} (cs : CS h z) (hz : hR h z 0 = some x) {s y : Int} (hs : 0 ≤ s ∧ s < τ 0) (hy : 2 ≤ y ∧ y + 6 ≤ 3000) : F_X1_isFollowed h z (iI s) (iI y) = some (bP (folP τ s y)) := by
  have hn4 := c.rg.n
  have n10F : (iI 1 = iI 0) = False := eq_false (by decide)
  refine ok1_eq ?_
  unfold F_X1_isFollowed G_X1_isFollowed_2
  refine lp_ok (fun st k => ∃ i : Nat, st = (z, iI s, iI y, iI i) ∧ (i : Int) ≤ τ 0 ∧ k = (τ 0 - i).toNat ∧ ∀ j : Nat, j < i → folI τ s y j) ?_ fuel (τ 0).toNat _ ⟨0, rfl, by omega, by omega, fun j hj => by omega⟩ (lt_fuel (by omega))
  rintro self st k ⟨i, rfl, h1, rfl, hP⟩ ih
  unfold L_X1_isFollowed_2
  by_cases ho : τ 0 ≤ (i : Int)
  · simp (disch := omega) only [i_lit, i_neg, i_add, i_sub, i_mul, i_ofNat, i_div, i_le, i_lt, i_eq, i_ix, i_inb, i_max, i_min, e_rem, j_lit, j_i, Int.reduceToNat, Int.reduceAdd, Int.reduceSub, Int.reduceMul, Int.reduceNeg, Int.reduceLT, Int.reduceLE, Int.reduceEq, gd_t, gd_T, ↓bd_m, ↓lh_t, ↓on_m, ↓ec_m, ↓reduceIte, if_true, if_false, true_and, and_true, false_and, and_false, true_or, or_true, false_or, or_false, Bool.false_eq_true, b2i_0, b2i_1, bl_0, bl_1, bl_b2, not_true_eq_false, not_false_eq_true, B_X1_isFollowed_2, B_X1_isFollowed_72, cs.k, hz, c.k, many_eq c, ho]
    exact Ok1.some (bP_t (fun j hj => hP j (by omega))).symm
  · have nx := fun hq => ih (z, iI s, iI y, iI ((i + 1 : Nat) : Int)) (τ 0 - ((i + 1 : Nat) : Int)).toNat (by omega) ⟨i + 1, rfl, by omega, rfl, hq⟩
    rw [show (((i + 1 : Nat)) : Int) = (i : Int) + 1 by omega] at nx
    have yes : folI τ s y i → Ok1 (self (z, iI s, iI y, iI ((i : Int) + 1))) (fun r => r = bP (folP τ s y)) := fun w => nx (fun j hj => by
      by_cases q : j = i
      · subst q; exact w
      · exact hP j (by omega))
    have no : ¬ folI τ s y i → bP (folP τ s y) = iI 0 := fun w => bP_f (fun u => w (u i (by omega)))
    clear nx ih hP
    have inner : ∀ (f : Int32) (u : Nat), 1 ≤ u → u ≤ 7 → ((f = iI 1 ∧ folI τ s y i) ∨ (f = iI 0 ∧ (i : Int) ≠ s ∧ ∀ k : Nat, 1 ≤ k → k < u → ¬ upP τ i (y + k))) → Ok1 (G_X1_isFollowed_30 h (fun a0 x1 x2 x3 => self (a0, x1, x2, x3)) z (iI s) (iI y) (iI i) f (iI (y + u))) (fun r => r = bP (folP τ s y)) := by
      intro f u hu1 hu2 hf
      unfold G_X1_isFollowed_30
      refine lp_ok (fun st k => ∃ (f : Int32) (u : Nat), st = (z, iI s, iI y, iI i, f, iI (y + u)) ∧ 1 ≤ u ∧ u ≤ 7 ∧ k = 7 - u ∧ ((f = iI 1 ∧ folI τ s y i) ∨ (f = iI 0 ∧ (i : Int) ≠ s ∧ ∀ k : Nat, 1 ≤ k → k < u → ¬ upP τ i (y + k)))) ?_ fuel (7 - u) _ ⟨f, u, rfl, hu1, hu2, rfl, hf⟩ (lt_fuel (by omega))
      clear hf hu1 hu2 f u
      rintro self2 st k ⟨f, u, rfl, hu1, hu2, rfl, hf⟩ ih
      unfold L_X1_isFollowed_30
      by_cases h6 : y + 6 < y + (u : Int)
      · rcases hf with ⟨rfl, hf⟩ | ⟨rfl, hf1, hf2⟩
        · simp (disch := omega) only [i_lit, i_neg, i_add, i_sub, i_mul, i_ofNat, i_div, i_le, i_lt, i_eq, i_ix, i_inb, i_max, i_min, e_rem, j_lit, j_i, Int.reduceToNat, Int.reduceAdd, Int.reduceSub, Int.reduceMul, Int.reduceNeg, Int.reduceLT, Int.reduceLE, Int.reduceEq, gd_t, gd_T, ↓bd_m, ↓lh_t, ↓on_m, ↓ec_m, ↓reduceIte, if_true, if_false, true_and, and_true, false_and, and_false, true_or, or_true, false_or, or_false, Bool.false_eq_true, b2i_0, b2i_1, bl_0, bl_1, bl_b2, not_true_eq_false, not_false_eq_true, B_X1_isFollowed_30, B_X1_isFollowed_59, h6, n10F]
          exact yes hf
        · simp (disch := omega) only [i_lit, i_neg, i_add, i_sub, i_mul, i_ofNat, i_div, i_le, i_lt, i_eq, i_ix, i_inb, i_max, i_min, e_rem, j_lit, j_i, Int.reduceToNat, Int.reduceAdd, Int.reduceSub, Int.reduceMul, Int.reduceNeg, Int.reduceLT, Int.reduceLE, Int.reduceEq, gd_t, gd_T, ↓bd_m, ↓lh_t, ↓on_m, ↓ec_m, ↓reduceIte, if_true, if_false, true_and, and_true, false_and, and_false, true_or, or_true, false_or, or_false, Bool.false_eq_true, b2i_0, b2i_1, bl_0, bl_1, bl_b2, not_true_eq_false, not_false_eq_true, B_X1_isFollowed_30, B_X1_isFollowed_59, B_X1_isFollowed_64, h6]
          refine Ok1.some (no (fun w => ?_)).symm
          rcases w with w | ⟨k, w1, w2, w3⟩
          · exact hf1 w
          · exact hf2 k w1 (by omega) w3
      · rcases hf with ⟨rfl, hf⟩ | ⟨rfl, hf1, hf2⟩
        · simp (disch := omega) only [i_lit, i_neg, i_add, i_sub, i_mul, i_ofNat, i_div, i_le, i_lt, i_eq, i_ix, i_inb, i_max, i_min, e_rem, j_lit, j_i, Int.reduceToNat, Int.reduceAdd, Int.reduceSub, Int.reduceMul, Int.reduceNeg, Int.reduceLT, Int.reduceLE, Int.reduceEq, gd_t, gd_T, ↓bd_m, ↓lh_t, ↓on_m, ↓ec_m, ↓reduceIte, if_true, if_false, true_and, and_true, false_and, and_false, true_or, or_true, false_or, or_false, Bool.false_eq_true, b2i_0, b2i_1, bl_0, bl_1, bl_b2, not_true_eq_false, not_false_eq_true, B_X1_isFollowed_30, B_X1_isFollowed_59, h6, n10F]
          exact yes hf
        · have e1 := goesUp_eq c cs hz (s := (i : Int)) (y := y + (u : Int)) (by omega) (by omega)
          have nx := fun f hq => ih (z, iI s, iI y, iI i, f, iI (y + ((u + 1 : Nat) : Int))) (7 - (u + 1)) (by omega) ⟨f, u + 1, rfl, by omega, by omega, rfl, hq⟩
          rw [show y + (((u + 1 : Nat)) : Int) = y + (u : Int) + 1 by omega] at nx
          by_cases q : upP τ i (y + u)
          · rw [bP_t q] at e1
            simp (disch := omega) only [i_lit, i_neg, i_add, i_sub, i_mul, i_ofNat, i_div, i_le, i_lt, i_eq, i_ix, i_inb, i_max, i_min, e_rem, j_lit, j_i, Int.reduceToNat, Int.reduceAdd, Int.reduceSub, Int.reduceMul, Int.reduceNeg, Int.reduceLT, Int.reduceLE, Int.reduceEq, gd_t, gd_T, ↓bd_m, ↓lh_t, ↓on_m, ↓ec_m, ↓reduceIte, if_true, if_false, true_and, and_true, false_and, and_false, true_or, or_true, false_or, or_false, Bool.false_eq_true, b2i_0, b2i_1, bl_0, bl_1, bl_b2, not_true_eq_false, not_false_eq_true, B_X1_isFollowed_30, h6, cs.k, e1]
            exact nx _ (Or.inl ⟨rfl, Or.inr ⟨u, hu1, by omega, q⟩⟩)
          · rw [bP_f q] at e1
            simp (disch := omega) only [i_lit, i_neg, i_add, i_sub, i_mul, i_ofNat, i_div, i_le, i_lt, i_eq, i_ix, i_inb, i_max, i_min, e_rem, j_lit, j_i, Int.reduceToNat, Int.reduceAdd, Int.reduceSub, Int.reduceMul, Int.reduceNeg, Int.reduceLT, Int.reduceLE, Int.reduceEq, gd_t, gd_T, ↓bd_m, ↓lh_t, ↓on_m, ↓ec_m, ↓reduceIte, if_true, if_false, true_and, and_true, false_and, and_false, true_or, or_true, false_or, or_false, Bool.false_eq_true, b2i_0, b2i_1, bl_0, bl_1, bl_b2, not_true_eq_false, not_false_eq_true, B_X1_isFollowed_30, h6, cs.k, e1]
            refine nx _ (Or.inr ⟨rfl, hf1, fun k k1 k2 => ?_⟩)
            by_cases w : k = u
            · subst w; exact q
            · exact hf2 k k1 (by omega)
    by_cases qs : (i : Int) = s
    · have qT : ((i : Int) = s) = True := eq_true qs
      simp (disch := omega) only [i_lit, i_neg, i_add, i_sub, i_mul, i_ofNat, i_div, i_le, i_lt, i_eq, i_ix, i_inb, i_max, i_min, e_rem, j_lit, j_i, Int.reduceToNat, Int.reduceAdd, Int.reduceSub, Int.reduceMul, Int.reduceNeg, Int.reduceLT, Int.reduceLE, Int.reduceEq, gd_t, gd_T, ↓bd_m, ↓lh_t, ↓on_m, ↓ec_m, ↓reduceIte, if_true, if_false, true_and, and_true, false_and, and_false, true_or, or_true, false_or, or_false, Bool.false_eq_true, b2i_0, b2i_1, bl_0, bl_1, bl_b2, not_true_eq_false, not_false_eq_true, B_X1_isFollowed_2, B_X1_isFollowed_23, cs.k, hz, c.k, many_eq c, ho, qT]
      exact inner _ 1 (by omega) (by omega) (Or.inl ⟨rfl, Or.inl qs⟩)
    · have qT : ((i : Int) = s) = False := eq_false qs
      simp (disch := omega) only [i_lit, i_neg, i_add, i_sub, i_mul, i_ofNat, i_div, i_le, i_lt, i_eq, i_ix, i_inb, i_max, i_min, e_rem, j_lit, j_i, Int.reduceToNat, Int.reduceAdd, Int.reduceSub, Int.reduceMul, Int.reduceNeg, Int.reduceLT, Int.reduceLE, Int.reduceEq, gd_t, gd_T, ↓bd_m, ↓lh_t, ↓on_m, ↓ec_m, ↓reduceIte, if_true, if_false, true_and, and_true, false_and, and_false, true_or, or_true, false_or, or_false, Bool.false_eq_true, b2i_0, b2i_1, bl_0, bl_1, bl_b2, not_true_eq_false, not_false_eq_true, B_X1_isFollowed_2, B_X1_isFollowed_23, cs.k, hz, c.k, many_eq c, ho, qT]
      exact inner _ 1 (by omega) (by omega) (Or.inr ⟨rfl, qs, fun k k1 k2 => by omega⟩)
theorem isFol_T {h : AH} {m : Nat} {τ : Nat → Int} (t : TN h m τ) (rg : RG τ) {s y : Int} (hs : 0 ≤ s ∧ s < τ 0) (hy : 2 ≤ y ∧ y + 6 ≤ 3000) (hb : max 0 (τ 2 - 256) ≤ y + 6 ∧ y + 6 ≤ τ 2 - 1) : F_X8_isFollowed h m (iI s) (iI y) = some (bP (folP τ s y)) := by
  have hn4 := rg.n
  have ts := t.s
  have ti := t.i
  have eb := isBoardT_eq t rg.h (y := y + 6) (by omega)
  rw [b2_t hb] at eb
  have n10F : (iI 1 = iI 0) = False := eq_false (by decide)
  unfold F_X8_isFollowed
  simp (disch := omega) only [i_lit, i_neg, i_add, i_sub, i_mul, i_ofNat, i_div, i_le, i_lt, i_eq, i_ix, i_inb, i_max, i_min, e_rem, j_lit, j_i, Int.reduceToNat, Int.reduceAdd, Int.reduceSub, Int.reduceMul, Int.reduceNeg, Int.reduceLT, Int.reduceLE, Int.reduceEq, gd_t, gd_T, ↓bd_m, ↓lh_t, ↓on_m, ↓ec_m, ↓reduceIte, if_true, if_false, true_and, and_true, false_and, and_false, true_or, or_true, false_or, or_false, Bool.false_eq_true, b2i_0, b2i_1, bl_0, bl_1, bl_b2, not_true_eq_false, not_false_eq_true, ts.k, eb, n10F]
  refine ok1_eq ?_
  unfold G_X8_isFollowed_15
  refine lp_ok (fun st k => ∃ i : Nat, st = (m, iI s, iI y, iI i) ∧ (i : Int) ≤ τ 0 ∧ k = (τ 0 - i).toNat ∧ ∀ j : Nat, j < i → folI τ s y j) ?_ fuel (τ 0).toNat _ ⟨0, rfl, by omega, by omega, fun j hj => by omega⟩ (lt_fuel (by omega))
  rintro self st k ⟨i, rfl, h1, rfl, hP⟩ ih
  unfold L_X8_isFollowed_15
  by_cases ho : τ 0 ≤ (i : Int)
  · simp (disch := omega) only [i_lit, i_neg, i_add, i_sub, i_mul, i_ofNat, i_div, i_le, i_lt, i_eq, i_ix, i_inb, i_max, i_min, e_rem, j_lit, j_i, Int.reduceToNat, Int.reduceAdd, Int.reduceSub, Int.reduceMul, Int.reduceNeg, Int.reduceLT, Int.reduceLE, Int.reduceEq, gd_t, gd_T, ↓bd_m, ↓lh_t, ↓on_m, ↓ec_m, ↓reduceIte, if_true, if_false, true_and, and_true, false_and, and_false, true_or, or_true, false_or, or_false, Bool.false_eq_true, b2i_0, b2i_1, bl_0, bl_1, bl_b2, not_true_eq_false, not_false_eq_true, B_X8_isFollowed_15, B_X8_isFollowed_90, ts.k, ts.r1, ts.k1, ts.l1, ts.r2, ts.k2, ts.l2, ts.r3, ts.k3, ts.l3, ts.r4, ts.k4, ts.l4, ts.r5, ts.k5, ts.l5, ts.r6, ts.k6, ts.l6, ts.r7, ts.k7, ts.l7, ts.r8, ts.k8, ts.l8, ts.r9, ts.k9, ts.l9, ts.r10, ts.k10, ts.l10, ts.r11, ts.k11, ts.l11, ts.r12, ts.k12, ts.l12, ts.r13, ts.k13, ts.l13, ts.r14, ts.k14, ts.l14, ts.r15, ts.k15, ts.l15, ts.r16, ts.k16, ts.l16, ts.r17, ts.k17, ts.l17, ts.r18, ts.k18, ts.l18, ts.r19, ts.k19, ts.l19, ts.r20, ts.k20, ts.l20, ti, ho]
    exact Ok1.some (bP_t (fun j hj => hP j (by omega))).symm
  · have nx := fun hq => ih (m, iI s, iI y, iI ((i + 1 : Nat) : Int)) (τ 0 - ((i + 1 : Nat) : Int)).toNat (by omega) ⟨i + 1, rfl, by omega, rfl, hq⟩
    rw [show (((i + 1 : Nat)) : Int) = (i : Int) + 1 by omega] at nx
    have yes : folI τ s y i → Ok1 (self (m, iI s, iI y, iI ((i : Int) + 1))) (fun r => r = bP (folP τ s y)) := fun w => nx (fun j hj => by
      by_cases q : j = i
      · subst q; exact w
      · exact hP j (by omega))
    have no : ¬ folI τ s y i → bP (folP τ s y) = iI 0 := fun w => bP_f (fun u => w (u i (by omega)))
    clear nx ih hP
    have inner : ∀ (f : Int32), ((f = iI 1 ∧ folI τ s y i) ∨ (f = iI 0 ∧ (i : Int) ≠ s)) → Ok1 (G_X8_isFollowed_40 h (fun a0 x1 x2 x3 => self (a0, x1, x2, x3)) m (iI s) (iI y) (iI i) f (iI 1)) (fun r => r = bP (folP τ s y)) := by
      intro f hf
      unfold G_X8_isFollowed_40
      refine lp_ok (fun st k => ∃ (f : Int32) (u : Nat), st = (m, iI s, iI y, iI i, f, iI u) ∧ 1 ≤ u ∧ u ≤ 7 ∧ k = 7 - u ∧ ((f = iI 1 ∧ folI τ s y i) ∨ (f = iI 0 ∧ (i : Int) ≠ s ∧ ∀ k : Nat, 1 ≤ k → k < u → ¬ upP τ i (y + k)))) ?_ fuel 6 _ ⟨f, 1, rfl, by omega, by omega, rfl, hf.elim Or.inl (fun w => Or.inr ⟨w.1, w.2, fun k k1 k2 => by omega⟩)⟩ (lt_fuel (by omega))
      clear hf f
      rintro self2 st k ⟨f, u, rfl, hu1, hu2, rfl, hf⟩ ih
      unfold L_X8_isFollowed_40
      by_cases h6 : 6 < (u : Int)
      · rcases hf with ⟨rfl, hf⟩ | ⟨rfl, hf1, hf2⟩
        · simp (disch := omega) only [i_lit, i_neg, i_add, i_sub, i_mul, i_ofNat, i_div, i_le, i_lt, i_eq, i_ix, i_inb, i_max, i_min, e_rem, j_lit, j_i, Int.reduceToNat, Int.reduceAdd, Int.reduceSub, Int.reduceMul, Int.reduceNeg, Int.reduceLT, Int.reduceLE, Int.reduceEq, gd_t, gd_T, ↓bd_m, ↓lh_t, ↓on_m, ↓ec_m, ↓reduceIte, if_true, if_false, true_and, and_true, false_and, and_false, true_or, or_true, false_or, or_false, Bool.false_eq_true, b2i_0, b2i_1, bl_0, bl_1, bl_b2, not_true_eq_false, not_false_eq_true, B_X8_isFollowed_40, B_X8_isFollowed_77, h6, n10F]
          exact yes hf
        · simp (disch := omega) only [i_lit, i_neg, i_add, i_sub, i_mul, i_ofNat, i_div, i_le, i_lt, i_eq, i_ix, i_inb, i_max, i_min, e_rem, j_lit, j_i, Int.reduceToNat, Int.reduceAdd, Int.reduceSub, Int.reduceMul, Int.reduceNeg, Int.reduceLT, Int.reduceLE, Int.reduceEq, gd_t, gd_T, ↓bd_m, ↓lh_t, ↓on_m, ↓ec_m, ↓reduceIte, if_true, if_false, true_and, and_true, false_and, and_false, true_or, or_true, false_or, or_false, Bool.false_eq_true, b2i_0, b2i_1, bl_0, bl_1, bl_b2, not_true_eq_false, not_false_eq_true, B_X8_isFollowed_40, B_X8_isFollowed_77, B_X8_isFollowed_82, h6]
          refine Ok1.some (no (fun w => ?_)).symm
          rcases w with w | ⟨k, w1, w2, w3⟩
          · exact hf1 w
          · exact hf2 k w1 (by omega) w3
      · have nx := fun f hq => ih (m, iI s, iI y, iI i, f, iI ((u + 1 : Nat) : Int)) (7 - (u + 1)) (by omega) ⟨f, u + 1, rfl, by omega, by omega, rfl, hq⟩
        rw [show (((u + 1 : Nat)) : Int) = (u : Int) + 1 by omega] at nx
        rcases hf with ⟨rfl, hf⟩ | ⟨rfl, hf1, hf2⟩
        · simp (disch := omega) only [i_lit, i_neg, i_add, i_sub, i_mul, i_ofNat, i_div, i_le, i_lt, i_eq, i_ix, i_inb, i_max, i_min, e_rem, j_lit, j_i, Int.reduceToNat, Int.reduceAdd, Int.reduceSub, Int.reduceMul, Int.reduceNeg, Int.reduceLT, Int.reduceLE, Int.reduceEq, gd_t, gd_T, ↓bd_m, ↓lh_t, ↓on_m, ↓ec_m, ↓reduceIte, if_true, if_false, true_and, and_true, false_and, and_false, true_or, or_true, false_or, or_false, Bool.false_eq_true, b2i_0, b2i_1, bl_0, bl_1, bl_b2, not_true_eq_false, not_false_eq_true, B_X8_isFollowed_40, B_X8_isFollowed_64, B_X8_isFollowed_69, h6, n10F]
          exact nx _ (Or.inl ⟨rfl, hf⟩)
        · have e1 := rose_eq t rg (s := (i : Int)) (y := y + (u : Int)) (by omega) (by omega)
          by_cases q : upP τ i (y + u)
          · rw [bP_t q] at e1
            simp (disch := omega) only [i_lit, i_neg, i_add, i_sub, i_mul, i_ofNat, i_div, i_le, i_lt, i_eq, i_ix, i_inb, i_max, i_min, e_rem, j_lit, j_i, Int.reduceToNat, Int.reduceAdd, Int.reduceSub, Int.reduceMul, Int.reduceNeg, Int.reduceLT, Int.reduceLE, Int.reduceEq, gd_t, gd_T, ↓bd_m, ↓lh_t, ↓on_m, ↓ec_m, ↓reduceIte, if_true, if_false, true_and, and_true, false_and, and_false, true_or, or_true, false_or, or_false, Bool.false_eq_true, b2i_0, b2i_1, bl_0, bl_1, bl_b2, not_true_eq_false, not_false_eq_true, B_X8_isFollowed_40, B_X8_isFollowed_64, B_X8_isFollowed_69, h6, ts.k, e1, n10F]
            exact nx _ (Or.inl ⟨rfl, Or.inr ⟨u, hu1, by omega, q⟩⟩)
          · rw [bP_f q] at e1
            simp (disch := omega) only [i_lit, i_neg, i_add, i_sub, i_mul, i_ofNat, i_div, i_le, i_lt, i_eq, i_ix, i_inb, i_max, i_min, e_rem, j_lit, j_i, Int.reduceToNat, Int.reduceAdd, Int.reduceSub, Int.reduceMul, Int.reduceNeg, Int.reduceLT, Int.reduceLE, Int.reduceEq, gd_t, gd_T, ↓bd_m, ↓lh_t, ↓on_m, ↓ec_m, ↓reduceIte, if_true, if_false, true_and, and_true, false_and, and_false, true_or, or_true, false_or, or_false, Bool.false_eq_true, b2i_0, b2i_1, bl_0, bl_1, bl_b2, not_true_eq_false, not_false_eq_true, B_X8_isFollowed_40, B_X8_isFollowed_69, h6, ts.k, e1]
            refine nx _ (Or.inr ⟨rfl, hf1, fun k k1 k2 => ?_⟩)
            by_cases w : k = u
            · subst w; exact q
            · exact hf2 k k1 (by omega)
    by_cases qs : (i : Int) = s
    · have qT : ((i : Int) = s) = True := eq_true qs
      simp (disch := omega) only [i_lit, i_neg, i_add, i_sub, i_mul, i_ofNat, i_div, i_le, i_lt, i_eq, i_ix, i_inb, i_max, i_min, e_rem, j_lit, j_i, Int.reduceToNat, Int.reduceAdd, Int.reduceSub, Int.reduceMul, Int.reduceNeg, Int.reduceLT, Int.reduceLE, Int.reduceEq, gd_t, gd_T, ↓bd_m, ↓lh_t, ↓on_m, ↓ec_m, ↓reduceIte, if_true, if_false, true_and, and_true, false_and, and_false, true_or, or_true, false_or, or_false, Bool.false_eq_true, b2i_0, b2i_1, bl_0, bl_1, bl_b2, not_true_eq_false, not_false_eq_true, B_X8_isFollowed_15, B_X8_isFollowed_35, ts.k, ts.r1, ts.k1, ts.l1, ts.r2, ts.k2, ts.l2, ts.r3, ts.k3, ts.l3, ts.r4, ts.k4, ts.l4, ts.r5, ts.k5, ts.l5, ts.r6, ts.k6, ts.l6, ts.r7, ts.k7, ts.l7, ts.r8, ts.k8, ts.l8, ts.r9, ts.k9, ts.l9, ts.r10, ts.k10, ts.l10, ts.r11, ts.k11, ts.l11, ts.r12, ts.k12, ts.l12, ts.r13, ts.k13, ts.l13, ts.r14, ts.k14, ts.l14, ts.r15, ts.k15, ts.l15, ts.r16, ts.k16, ts.l16, ts.r17, ts.k17, ts.l17, ts.r18, ts.k18, ts.l18, ts.r19, ts.k19, ts.l19, ts.r20, ts.k20, ts.l20, ti, ho, qT]
      exact inner _ (Or.inl ⟨rfl, Or.inl qs⟩)
    · have qT : ((i : Int) = s) = False := eq_false qs
      simp (disch := omega) only [i_lit, i_neg, i_add, i_sub, i_mul, i_ofNat, i_div, i_le, i_lt, i_eq, i_ix, i_inb, i_max, i_min, e_rem, j_lit, j_i, Int.reduceToNat, Int.reduceAdd, Int.reduceSub, Int.reduceMul, Int.reduceNeg, Int.reduceLT, Int.reduceLE, Int.reduceEq, gd_t, gd_T, ↓bd_m, ↓lh_t, ↓on_m, ↓ec_m, ↓reduceIte, if_true, if_false, true_and, and_true, false_and, and_false, true_or, or_true, false_or, or_false, Bool.false_eq_true, b2i_0, b2i_1, bl_0, bl_1, bl_b2, not_true_eq_false, not_false_eq_true, B_X8_isFollowed_15, B_X8_isFollowed_35, ts.k, ts.r1, ts.k1, ts.l1, ts.r2, ts.k2, ts.l2, ts.r3, ts.k3, ts.l3, ts.r4, ts.k4, ts.l4, ts.r5, ts.k5, ts.l5, ts.r6, ts.k6, ts.l6, ts.r7, ts.k7, ts.l7, ts.r8, ts.k8, ts.l8, ts.r9, ts.k9, ts.l9, ts.r10, ts.k10, ts.l10, ts.r11, ts.k11, ts.l11, ts.r12, ts.k12, ts.l12, ts.r13, ts.k13, ts.l13, ts.r14, ts.k14, ts.l14, ts.r15, ts.k15, ts.l15, ts.r16, ts.k16, ts.l16, ts.r17, ts.k17, ts.l17, ts.r18, ts.k18, ts.l18, ts.r19, ts.k19, ts.l19, ts.r20, ts.k20, ts.l20, ti, ho, qT]
      exact inner _ (Or.inr ⟨rfl, qs⟩)
theorem op_leads {z m : Nat} (x1 x2 : Int32) : ∀ hC hT, Rx hC hT z m → rm z hC → Ok2 (F_X0_leads hC z x1 x2 (z + 495)) (F_X8_leads hT m x1 x2) (fun a b => VI z m a b ∧ FC z hC a.2 ∧ FT m hT b.2 ∧ Rx a.2 b.2 z m) := by
  intro hC hT ⟨o, x, τ, υ, e, el, lw, r⟩ g
  have hn4 := r.c.rg.n
  have cs := r.cs
  have c := r.c
  have hz := r.hz
  have ts0 := r.tn.s
  have tn := r.tn.wm 5 (iI 0)
  have ti := tn.i
  have ts := tn.s
  have hgi := c.rg.i
  have gr : 1 ≤ hc hC ∧ 6 ≤ hs hC := by have := g.1; have := g.2.1; omega
  obtain ⟨s, rfl, hs⟩ := i_ex x1
  have r2 := c.rg.h
  have e1 := isStation_eq tn hn4 hs
  have n10F : (iI 1 = iI 0) = False := eq_false (by decide)
  by_cases q : 0 ≤ s ∧ s ≤ τ 0 - 1
  · rw [b2_t q] at e1
    have key : Ok2 (G_X1_leads_27 hC z (iI s) x2 (iI 0) (iI (max 0 (τ 2 - 256) + 2))) (G_X8_leads_39 (wI hT m 5 (iI 0)) m (iI s) x2 (iI 0) (iI (max 2 (τ 2 - 256 + 2)))) (fun a b => ∃ w : Int, i31 w ∧ a = .inl (iI w, hC) ∧ b = (iI w, wI hT m 5 (iI 0))) := by
      unfold G_X1_leads_27 G_X8_leads_39
      refine lp_ok2 (fun st u k => ∃ (w : Nat) (y : Int), st = (hC, z, iI s, x2, iI w, iI y) ∧ u = (wI hT m 5 (iI 0), m, iI s, x2, iI w, iI y) ∧ max 0 (τ 2 - 256) + 2 ≤ y ∧ (y ≤ τ 2 ∨ y = 2) ∧ k = (τ 2 - y).toNat ∧ (w : Int) ≤ y) ?_ fuel (τ 2 - (max 0 (τ 2 - 256) + 2)).toNat _ _ ⟨0, max 0 (τ 2 - 256) + 2, rfl, by rw [show max 2 (τ 2 - 256 + 2) = max 0 (τ 2 - 256) + 2 by omega]; rfl, by omega, by omega, rfl, by omega⟩ (lt_fuel (by omega))
      rintro f1 f2 st u k ⟨w, y, rfl, rfl, h1, h2, rfl, h3⟩ ih
      unfold L_X1_leads_27 L_X8_leads_39
      by_cases ho : τ 2 ≤ y
      · simp (disch := omega) only [i_lit, i_neg, i_add, i_sub, i_mul, i_ofNat, i_div, i_le, i_lt, i_eq, i_ix, i_inb, i_max, i_min, e_rem, j_lit, j_i, Int.reduceToNat, Int.reduceAdd, Int.reduceSub, Int.reduceMul, Int.reduceNeg, Int.reduceLT, Int.reduceLE, Int.reduceEq, gd_t, gd_T, ↓bd_m, ↓lh_t, ↓on_m, ↓ec_m, ↓reduceIte, if_true, if_false, true_and, and_true, false_and, and_false, true_or, or_true, false_or, or_false, Bool.false_eq_true, b2i_0, b2i_1, bl_0, bl_1, bl_b2, not_true_eq_false, not_false_eq_true, B_X1_leads_27, B_X1_leads_95, B_X8_leads_39, B_X8_leads_83, cs.k, hz, c.k, c.i9, ts0.k, ts0.r1, ts0.k1, ts0.l1, ts0.r2, ts0.k2, ts0.l2, ts0.r3, ts0.k3, ts0.l3, ts0.r4, ts0.k4, ts0.l4, ts0.r5, ts0.k5, ts0.l5, ts0.r6, ts0.k6, ts0.l6, ts0.r7, ts0.k7, ts0.l7, ts0.r8, ts0.k8, ts0.l8, ts0.r9, ts0.k9, ts0.l9, ts0.r10, ts0.k10, ts0.l10, ts0.r11, ts0.k11, ts0.l11, ts0.r12, ts0.k12, ts0.l12, ts0.r13, ts0.k13, ts0.l13, ts0.r14, ts0.k14, ts0.l14, ts0.r15, ts0.k15, ts0.l15, ts0.r16, ts0.k16, ts0.l16, ts0.r17, ts0.k17, ts0.l17, ts0.r18, ts0.k18, ts0.l18, ts0.r19, ts0.k19, ts0.l19, ts0.r20, ts0.k20, ts0.l20, hK_wI, hL_wI, hR_wI, ti, ho]
        exact Ok2.some ⟨w, by omega, rfl, rfl⟩
      · have a1 := isLead_C c cs hz (s := s) (y := y) (by omega) (by omega)
        have a2 := isLead_T tn c.rg (s := s) (y := y) (by omega) (by omega) (by omega)
        have nx := fun (w' : Nat) hw' => ih (hC, z, iI s, x2, iI w', iI (y + 1)) (wI hT m 5 (iI 0), m, iI s, x2, iI w', iI (y + 1)) (τ 2 - (y + 1)).toNat (by omega) ⟨w', y + 1, rfl, rfl, by omega, by omega, rfl, hw'⟩
        have nx0 := nx w (by omega)
        have nx1 := nx (w + 1) (by omega)
        rw [show (((w + 1 : Nat)) : Int) = (w : Int) + 1 by omega] at nx1
        by_cases q1 : leadP τ s y
        · rw [bP_t q1] at a1 a2
          by_cases q2 : x2 = iI 0
          · have qT : (x2 = iI 0) = True := eq_true q2
            simp (disch := omega) only [i_lit, i_neg, i_add, i_sub, i_mul, i_ofNat, i_div, i_le, i_lt, i_eq, i_ix, i_inb, i_max, i_min, e_rem, j_lit, j_i, Int.reduceToNat, Int.reduceAdd, Int.reduceSub, Int.reduceMul, Int.reduceNeg, Int.reduceLT, Int.reduceLE, Int.reduceEq, gd_t, gd_T, ↓bd_m, ↓lh_t, ↓on_m, ↓ec_m, ↓reduceIte, if_true, if_false, true_and, and_true, false_and, and_false, true_or, or_true, false_or, or_false, Bool.false_eq_true, b2i_0, b2i_1, bl_0, bl_1, bl_b2, not_true_eq_false, not_false_eq_true, B_X1_leads_27, B_X1_leads_82, B_X1_leads_87, B_X1_leads_89, B_X8_leads_39, B_X8_leads_74, B_X8_leads_77, cs.k, hz, c.k, c.i9, ts0.k, ts0.r1, ts0.k1, ts0.l1, ts0.r2, ts0.k2, ts0.l2, ts0.r3, ts0.k3, ts0.l3, ts0.r4, ts0.k4, ts0.l4, ts0.r5, ts0.k5, ts0.l5, ts0.r6, ts0.k6, ts0.l6, ts0.r7, ts0.k7, ts0.l7, ts0.r8, ts0.k8, ts0.l8, ts0.r9, ts0.k9, ts0.l9, ts0.r10, ts0.k10, ts0.l10, ts0.r11, ts0.k11, ts0.l11, ts0.r12, ts0.k12, ts0.l12, ts0.r13, ts0.k13, ts0.l13, ts0.r14, ts0.k14, ts0.l14, ts0.r15, ts0.k15, ts0.l15, ts0.r16, ts0.k16, ts0.l16, ts0.r17, ts0.k17, ts0.l17, ts0.r18, ts0.k18, ts0.l18, ts0.r19, ts0.k19, ts0.l19, ts0.r20, ts0.k20, ts0.l20, hK_wI, hL_wI, hR_wI, ti, ho, a1, a2, qT, n10F]
            exact nx1
          · have qT : (x2 = iI 0) = False := eq_false q2
            by_cases q3 : τ 2 ≤ y + 6
            · have eb := isBoardT_eq tn c.rg.h (y := y + 6) (by omega)
              rw [b2_f (by omega)] at eb
              have a4 : F_X8_isFollowed (wI hT m 5 (iI 0)) m (iI s) (iI y) = some (iI 0) := by
                unfold F_X8_isFollowed
                simp (disch := omega) only [i_lit, i_neg, i_add, i_sub, i_mul, i_ofNat, i_div, i_le, i_lt, i_eq, i_ix, i_inb, i_max, i_min, e_rem, j_lit, j_i, Int.reduceToNat, Int.reduceAdd, Int.reduceSub, Int.reduceMul, Int.reduceNeg, Int.reduceLT, Int.reduceLE, Int.reduceEq, gd_t, gd_T, ↓bd_m, ↓lh_t, ↓on_m, ↓ec_m, ↓reduceIte, if_true, if_false, true_and, and_true, false_and, and_false, true_or, or_true, false_or, or_false, Bool.false_eq_true, b2i_0, b2i_1, bl_0, bl_1, bl_b2, not_true_eq_false, not_false_eq_true, ts.k, eb]
              simp (disch := omega) only [i_lit, i_neg, i_add, i_sub, i_mul, i_ofNat, i_div, i_le, i_lt, i_eq, i_ix, i_inb, i_max, i_min, e_rem, j_lit, j_i, Int.reduceToNat, Int.reduceAdd, Int.reduceSub, Int.reduceMul, Int.reduceNeg, Int.reduceLT, Int.reduceLE, Int.reduceEq, gd_t, gd_T, ↓bd_m, ↓lh_t, ↓on_m, ↓ec_m, ↓reduceIte, if_true, if_false, true_and, and_true, false_and, and_false, true_or, or_true, false_or, or_false, Bool.false_eq_true, b2i_0, b2i_1, bl_0, bl_1, bl_b2, not_true_eq_false, not_false_eq_true, B_X1_leads_27, B_X1_leads_86, B_X1_leads_87, B_X1_leads_89, B_X8_leads_39, B_X8_leads_77, cs.k, hz, c.k, c.i9, ts0.k, ts0.r1, ts0.k1, ts0.l1, ts0.r2, ts0.k2, ts0.l2, ts0.r3, ts0.k3, ts0.l3, ts0.r4, ts0.k4, ts0.l4, ts0.r5, ts0.k5, ts0.l5, ts0.r6, ts0.k6, ts0.l6, ts0.r7, ts0.k7, ts0.l7, ts0.r8, ts0.k8, ts0.l8, ts0.r9, ts0.k9, ts0.l9, ts0.r10, ts0.k10, ts0.l10, ts0.r11, ts0.k11, ts0.l11, ts0.r12, ts0.k12, ts0.l12, ts0.r13, ts0.k13, ts0.l13, ts0.r14, ts0.k14, ts0.l14, ts0.r15, ts0.k15, ts0.l15, ts0.r16, ts0.k16, ts0.l16, ts0.r17, ts0.k17, ts0.l17, ts0.r18, ts0.k18, ts0.l18, ts0.r19, ts0.k19, ts0.l19, ts0.r20, ts0.k20, ts0.l20, hK_wI, hL_wI, hR_wI, ti, ho, a1, a2, a4, qT, q3, n10F, Int.add_zero]
              exact nx0
            · have a3 := isFol_C c cs hz (s := s) (y := y) (by omega) (by omega)
              have a4 := isFol_T tn c.rg (s := s) (y := y) (by omega) (by omega) (by omega)
              by_cases q4 : folP τ s y
              · rw [bP_t q4] at a3 a4
                simp (disch := omega) only [i_lit, i_neg, i_add, i_sub, i_mul, i_ofNat, i_div, i_le, i_lt, i_eq, i_ix, i_inb, i_max, i_min, e_rem, j_lit, j_i, Int.reduceToNat, Int.reduceAdd, Int.reduceSub, Int.reduceMul, Int.reduceNeg, Int.reduceLT, Int.reduceLE, Int.reduceEq, gd_t, gd_T, ↓bd_m, ↓lh_t, ↓on_m, ↓ec_m, ↓reduceIte, if_true, if_false, true_and, and_true, false_and, and_false, true_or, or_true, false_or, or_false, Bool.false_eq_true, b2i_0, b2i_1, bl_0, bl_1, bl_b2, not_true_eq_false, not_false_eq_true, B_X1_leads_27, B_X1_leads_82, B_X1_leads_87, B_X1_leads_89, B_X8_leads_39, B_X8_leads_74, B_X8_leads_77, cs.k, hz, c.k, c.i9, ts0.k, ts0.r1, ts0.k1, ts0.l1, ts0.r2, ts0.k2, ts0.l2, ts0.r3, ts0.k3, ts0.l3, ts0.r4, ts0.k4, ts0.l4, ts0.r5, ts0.k5, ts0.l5, ts0.r6, ts0.k6, ts0.l6, ts0.r7, ts0.k7, ts0.l7, ts0.r8, ts0.k8, ts0.l8, ts0.r9, ts0.k9, ts0.l9, ts0.r10, ts0.k10, ts0.l10, ts0.r11, ts0.k11, ts0.l11, ts0.r12, ts0.k12, ts0.l12, ts0.r13, ts0.k13, ts0.l13, ts0.r14, ts0.k14, ts0.l14, ts0.r15, ts0.k15, ts0.l15, ts0.r16, ts0.k16, ts0.l16, ts0.r17, ts0.k17, ts0.l17, ts0.r18, ts0.k18, ts0.l18, ts0.r19, ts0.k19, ts0.l19, ts0.r20, ts0.k20, ts0.l20, hK_wI, hL_wI, hR_wI, ti, ho, a1, a2, a3, a4, qT, q3, n10F]
                exact nx1
              · rw [bP_f q4] at a3 a4
                simp (disch := omega) only [i_lit, i_neg, i_add, i_sub, i_mul, i_ofNat, i_div, i_le, i_lt, i_eq, i_ix, i_inb, i_max, i_min, e_rem, j_lit, j_i, Int.reduceToNat, Int.reduceAdd, Int.reduceSub, Int.reduceMul, Int.reduceNeg, Int.reduceLT, Int.reduceLE, Int.reduceEq, gd_t, gd_T, ↓bd_m, ↓lh_t, ↓on_m, ↓ec_m, ↓reduceIte, if_true, if_false, true_and, and_true, false_and, and_false, true_or, or_true, false_or, or_false, Bool.false_eq_true, b2i_0, b2i_1, bl_0, bl_1, bl_b2, not_true_eq_false, not_false_eq_true, B_X1_leads_27, B_X1_leads_86, B_X1_leads_87, B_X1_leads_89, B_X8_leads_39, B_X8_leads_77, cs.k, hz, c.k, c.i9, ts0.k, ts0.r1, ts0.k1, ts0.l1, ts0.r2, ts0.k2, ts0.l2, ts0.r3, ts0.k3, ts0.l3, ts0.r4, ts0.k4, ts0.l4, ts0.r5, ts0.k5, ts0.l5, ts0.r6, ts0.k6, ts0.l6, ts0.r7, ts0.k7, ts0.l7, ts0.r8, ts0.k8, ts0.l8, ts0.r9, ts0.k9, ts0.l9, ts0.r10, ts0.k10, ts0.l10, ts0.r11, ts0.k11, ts0.l11, ts0.r12, ts0.k12, ts0.l12, ts0.r13, ts0.k13, ts0.l13, ts0.r14, ts0.k14, ts0.l14, ts0.r15, ts0.k15, ts0.l15, ts0.r16, ts0.k16, ts0.l16, ts0.r17, ts0.k17, ts0.l17, ts0.r18, ts0.k18, ts0.l18, ts0.r19, ts0.k19, ts0.l19, ts0.r20, ts0.k20, ts0.l20, hK_wI, hL_wI, hR_wI, ti, ho, a1, a2, a3, a4, qT, q3, n10F, Int.add_zero]
                exact nx0
        · rw [bP_f q1] at a1 a2
          simp (disch := omega) only [i_lit, i_neg, i_add, i_sub, i_mul, i_ofNat, i_div, i_le, i_lt, i_eq, i_ix, i_inb, i_max, i_min, e_rem, j_lit, j_i, Int.reduceToNat, Int.reduceAdd, Int.reduceSub, Int.reduceMul, Int.reduceNeg, Int.reduceLT, Int.reduceLE, Int.reduceEq, gd_t, gd_T, ↓bd_m, ↓lh_t, ↓on_m, ↓ec_m, ↓reduceIte, if_true, if_false, true_and, and_true, false_and, and_false, true_or, or_true, false_or, or_false, Bool.false_eq_true, b2i_0, b2i_1, bl_0, bl_1, bl_b2, not_true_eq_false, not_false_eq_true, B_X1_leads_27, B_X1_leads_89, B_X8_leads_39, B_X8_leads_77, cs.k, hz, c.k, c.i9, ts0.k, ts0.r1, ts0.k1, ts0.l1, ts0.r2, ts0.k2, ts0.l2, ts0.r3, ts0.k3, ts0.l3, ts0.r4, ts0.k4, ts0.l4, ts0.r5, ts0.k5, ts0.l5, ts0.r6, ts0.k6, ts0.l6, ts0.r7, ts0.k7, ts0.l7, ts0.r8, ts0.k8, ts0.l8, ts0.r9, ts0.k9, ts0.l9, ts0.r10, ts0.k10, ts0.l10, ts0.r11, ts0.k11, ts0.l11, ts0.r12, ts0.k12, ts0.l12, ts0.r13, ts0.k13, ts0.l13, ts0.r14, ts0.k14, ts0.l14, ts0.r15, ts0.k15, ts0.l15, ts0.r16, ts0.k16, ts0.l16, ts0.r17, ts0.k17, ts0.l17, ts0.r18, ts0.k18, ts0.l18, ts0.r19, ts0.k19, ts0.l19, ts0.r20, ts0.k20, ts0.l20, hK_wI, hL_wI, hR_wI, ti, ho, a1, a2]
          exact nx0
    obtain ⟨u, u', k1, k2, w, hw, rfl, rfl⟩ := key
    simp (disch := omega) only [i_lit, i_neg, i_add, i_sub, i_mul, i_ofNat, i_div, i_le, i_lt, i_eq, i_ix, i_inb, i_max, i_min, e_rem, j_lit, j_i, Int.reduceToNat, Int.reduceAdd, Int.reduceSub, Int.reduceMul, Int.reduceNeg, Int.reduceLT, Int.reduceLE, Int.reduceEq, gd_t, gd_T, ↓bd_m, ↓lh_t, ↓on_m, ↓ec_m, ↓reduceIte, if_true, if_false, true_and, and_true, false_and, and_false, true_or, or_true, false_or, or_false, Bool.false_eq_true, b2i_0, b2i_1, bl_0, bl_1, bl_b2, not_true_eq_false, not_false_eq_true, F_X0_leads, F_X1_leads, F_X8_leads, B_X8_leads_5, cs.k, stationOf_t c cs hz q, hz, c.k, c.i9, k1, g.2.2.1, g.2.2.2.1, ts0.k, ts0.r1, ts0.k1, ts0.l1, ts0.r2, ts0.k2, ts0.l2, ts0.r3, ts0.k3, ts0.l3, ts0.r4, ts0.k4, ts0.l4, ts0.r5, ts0.k5, ts0.l5, ts0.r6, ts0.k6, ts0.l6, ts0.r7, ts0.k7, ts0.l7, ts0.r8, ts0.k8, ts0.l8, ts0.r9, ts0.k9, ts0.l9, ts0.r10, ts0.k10, ts0.l10, ts0.r11, ts0.k11, ts0.l11, ts0.r12, ts0.k12, ts0.l12, ts0.r13, ts0.k13, ts0.l13, ts0.r14, ts0.k14, ts0.l14, ts0.r15, ts0.k15, ts0.l15, ts0.r16, ts0.k16, ts0.l16, ts0.r17, ts0.k17, ts0.l17, ts0.r18, ts0.k18, ts0.l18, ts0.r19, ts0.k19, ts0.l19, ts0.r20, ts0.k20, ts0.l20, hK_wI, hL_wI, hR_wI, e1, ti, k2]
    exact Ok2.some (r.finT g (tf0 (P := GP z)) GP_scr (tf0 (P := TP m)) TP_rng _ _ (j_i (by omega)).symm)
  · rw [b2_f q] at e1
    simp (disch := omega) only [i_lit, i_neg, i_add, i_sub, i_mul, i_ofNat, i_div, i_le, i_lt, i_eq, i_ix, i_inb, i_max, i_min, e_rem, j_lit, j_i, Int.reduceToNat, Int.reduceAdd, Int.reduceSub, Int.reduceMul, Int.reduceNeg, Int.reduceLT, Int.reduceLE, Int.reduceEq, gd_t, gd_T, ↓bd_m, ↓lh_t, ↓on_m, ↓ec_m, ↓reduceIte, if_true, if_false, true_and, and_true, false_and, and_false, true_or, or_true, false_or, or_false, Bool.false_eq_true, b2i_0, b2i_1, bl_0, bl_1, bl_b2, not_true_eq_false, not_false_eq_true, F_X0_leads, F_X1_leads, B_X0_leads_13, F_X8_leads, B_X8_leads_5, cs.k, stationOf_f c cs hz hs q gr, ts0.k, ts0.r1, ts0.k1, ts0.l1, ts0.r2, ts0.k2, ts0.l2, ts0.r3, ts0.k3, ts0.l3, ts0.r4, ts0.k4, ts0.l4, ts0.r5, ts0.k5, ts0.l5, ts0.r6, ts0.k6, ts0.l6, ts0.r7, ts0.k7, ts0.l7, ts0.r8, ts0.k8, ts0.l8, ts0.r9, ts0.k9, ts0.l9, ts0.r10, ts0.k10, ts0.l10, ts0.r11, ts0.k11, ts0.l11, ts0.r12, ts0.k12, ts0.l12, ts0.r13, ts0.k13, ts0.l13, ts0.r14, ts0.k14, ts0.l14, ts0.r15, ts0.k15, ts0.l15, ts0.r16, ts0.k16, ts0.l16, ts0.r17, ts0.k17, ts0.l17, ts0.r18, ts0.k18, ts0.l18, ts0.r19, ts0.k19, ts0.l19, ts0.r20, ts0.k20, ts0.l20, hK_wI, e1, fails_eq ts.k, Nat.reduceEqDiff]
    exact Ok2.some (r.bad _ (by decide))
