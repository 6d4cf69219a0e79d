/-! PURE HK: told -/
set_option maxRecDepth 100000
def tV (a b c d : Int) (s : Nat) : Int := if s = 0 then a else if s = 1 then b else if s = 2 then c else d
def tAll (n : Int) (a b c d : Int) : Prop := ∀ s : Nat, (s : Int) < n → 0 ≤ tV a b c d s ∧ tV a b c d s ≤ 99
theorem chkT {g : AH} {m : Nat} {τ : Nat → Int} (t : TN g m τ) (hn4 : 0 ≤ τ 0 ∧ τ 0 ≤ 4) {a b c d : Int} (ha : i31 a) (hb : i31 b) (hc : i31 c) (hd : i31 d) {E : Option (Int32 × AH) → Prop} (H1 : tAll (τ 0) a b c d → E (B_X8_told_91 g m (iI a) (iI b) (iI c) (iI d))) (H2 : ¬ tAll (τ 0) a b c d → E (B_X8_told_79 g m)) : E (G_X8_told_23 g m (iI a) (iI b) (iI c) (iI d) (iI 0)) := by
  have ts := t.s
  have ti := t.i
  unfold G_X8_told_23
  refine lp_end (E := E) (fun st k => ∃ i : Nat, st = (g, m, iI a, iI b, iI c, iI d, iI i) ∧ (i : Int) ≤ τ 0 ∧ k = (τ 0 - i).toNat ∧ ∀ j : Nat, j < i → 0 ≤ tV a b c d j ∧ tV a b c d j ≤ 99) ?_ fuel (τ 0).toNat _ ⟨0, rfl, by omega, by omega, fun j hj => by omega⟩ (lt_fuel (by omega))
  rintro self st k ⟨i, rfl, h1, rfl, hP⟩ ih
  unfold L_X8_told_23
  by_cases ho : τ 0 ≤ (i : Int)
  · simp (disch := omega) only [i_lit, i_neg, i_add, i_sub, i_mul, i_ofNat, i_div, i_le, i_lt, i_eq, i_ix, i_inb, i_max, i_min, e_rem, j_lit, j_i, Int.reduceToNat, Int.reduceAdd, Int.reduceSub, Int.reduceMul, Int.reduceNeg, Int.reduceLT, Int.reduceLE, Int.reduceEq, gd_t, gd_T, ↓bd_m, ↓lh_t, ↓on_m, ↓ec_m, ↓reduceIte, if_true, if_false, true_and, and_true, false_and, and_false, true_or, or_true, false_or, or_false, Bool.false_eq_true, b2i_0, b2i_1, bl_0, bl_1, bl_b2, not_true_eq_false, not_false_eq_true, B_X8_told_23, ts.k, ts.r1, ts.k1, ts.l1, ts.r2, ts.k2, ts.l2, ts.r3, ts.k3, ts.l3, ts.r4, ts.k4, ts.l4, ts.r5, ts.k5, ts.l5, ts.r6, ts.k6, ts.l6, ts.r7, ts.k7, ts.l7, ts.r8, ts.k8, ts.l8, ts.r9, ts.k9, ts.l9, ts.r10, ts.k10, ts.l10, ts.r11, ts.k11, ts.l11, ts.r12, ts.k12, ts.l12, ts.r13, ts.k13, ts.l13, ts.r14, ts.k14, ts.l14, ts.r15, ts.k15, ts.l15, ts.r16, ts.k16, ts.l16, ts.r17, ts.k17, ts.l17, ts.r18, ts.k18, ts.l18, ts.r19, ts.k19, ts.l19, ts.r20, ts.k20, ts.l20, ti, ho]
    exact H1 (fun s hs => hP s (by omega))
  · have hv : i31 (tV a b c d i) := by unfold tV; split; exact ha; split; exact hb; split; exact hc; exact hd
    have e1 := within_eq g (a := tV a b c d i) (b := 0) (c := 99) (by omega) (by omega) (by omega)
    have step : E (B_X8_told_69 g (fun h a0 x1 x2 x3 x4 x5 => self (h, a0, x1, x2, x3, x4, x5)) m (iI a) (iI b) (iI c) (iI d) (iI i) (jI (tV a b c d i))) := by
      by_cases q : 0 ≤ tV a b c d i ∧ tV a b c d i ≤ 99
      · rw [b2_t q] at e1
        have nx := ih (g, m, iI a, iI b, iI c, iI d, iI ((i + 1 : Nat) : Int)) (τ 0 - ((i + 1 : Nat) : Int)).toNat (by omega) ⟨i + 1, rfl, by omega, rfl, fun j hj => by
          by_cases w : j = i
          · subst w; exact q
          · exact hP j (by omega)⟩
        rw [show (((i + 1 : Nat)) : Int) = (i : Int) + 1 by omega] at nx
        simp (disch := omega) only [i_lit, i_neg, i_add, i_sub, i_mul, i_ofNat, i_div, i_le, i_lt, i_eq, i_ix, i_inb, i_max, i_min, e_rem, j_lit, j_i, Int.reduceToNat, Int.reduceAdd, Int.reduceSub, Int.reduceMul, Int.reduceNeg, Int.reduceLT, Int.reduceLE, Int.reduceEq, gd_t, gd_T, ↓bd_m, ↓lh_t, ↓on_m, ↓ec_m, ↓reduceIte, if_true, if_false, true_and, and_true, false_and, and_false, true_or, or_true, false_or, or_false, Bool.false_eq_true, b2i_0, b2i_1, bl_0, bl_1, bl_b2, not_true_eq_false, not_false_eq_true, B_X8_told_69, e1]
        exact nx
      · rw [b2_f q] at e1
        simp (disch := omega) only [i_lit, i_neg, i_add, i_sub, i_mul, i_ofNat, i_div, i_le, i_lt, i_eq, i_ix, i_inb, i_max, i_min, e_rem, j_lit, j_i, Int.reduceToNat, Int.reduceAdd, Int.reduceSub, Int.reduceMul, Int.reduceNeg, Int.reduceLT, Int.reduceLE, Int.reduceEq, gd_t, gd_T, ↓bd_m, ↓lh_t, ↓on_m, ↓ec_m, ↓reduceIte, if_true, if_false, true_and, and_true, false_and, and_false, true_or, or_true, false_or, or_false, Bool.false_eq_true, b2i_0, b2i_1, bl_0, bl_1, bl_b2, not_true_eq_false, not_false_eq_true, B_X8_told_69, e1]
        exact H2 (fun u => q (u i (by omega)))
    rcases (show i = 0 ∨ i = 1 ∨ i = 2 ∨ i = 3 by omega) with rfl | rfl | rfl | rfl
    · have o1 : (τ 0 ≤ 0) = False := eq_false (by omega)
      have step : E (B_X8_told_69 g (fun h a0 x1 x2 x3 x4 x5 => self (h, a0, x1, x2, x3, x4, x5)) m (iI a) (iI b) (iI c) (iI d) (iI 0) (jI a)) := step
      show E (B_X8_told_23 g _ m (iI a) (iI b) (iI c) (iI d) (iI 0))
      simp (disch := omega) only [i_lit, i_neg, i_add, i_sub, i_mul, i_ofNat, i_div, i_le, i_lt, i_eq, i_ix, i_inb, i_max, i_min, e_rem, j_lit, j_i, Int.reduceToNat, Int.reduceAdd, Int.reduceSub, Int.reduceMul, Int.reduceNeg, Int.reduceLT, Int.reduceLE, Int.reduceEq, gd_t, gd_T, ↓bd_m, ↓lh_t, ↓on_m, ↓ec_m, ↓reduceIte, if_true, if_false, true_and, and_true, false_and, and_false, true_or, or_true, false_or, or_false, Bool.false_eq_true, b2i_0, b2i_1, bl_0, bl_1, bl_b2, not_true_eq_false, not_false_eq_true, B_X8_told_23, ts.k, ts.r1, ts.k1, ts.l1, ts.r2, ts.k2, ts.l2, ts.r3, ts.k3, ts.l3, ts.r4, ts.k4, ts.l4, ts.r5, ts.k5, ts.l5, ts.r6, ts.k6, ts.l6, ts.r7, ts.k7, ts.l7, ts.r8, ts.k8, ts.l8, ts.r9, ts.k9, ts.l9, ts.r10, ts.k10, ts.l10, ts.r11, ts.k11, ts.l11, ts.r12, ts.k12, ts.l12, ts.r13, ts.k13, ts.l13, ts.r14, ts.k14, ts.l14, ts.r15, ts.k15, ts.l15, ts.r16, ts.k16, ts.l16, ts.r17, ts.k17, ts.l17, ts.r18, ts.k18, ts.l18, ts.r19, ts.k19, ts.l19, ts.r20, ts.k20, ts.l20, ti, o1]
      exact step
    · have o1 : (τ 0 ≤ 1) = False := eq_false (by omega)
      have step : E (B_X8_told_69 g (fun h a0 x1 x2 x3 x4 x5 => self (h, a0, x1, x2, x3, x4, x5)) m (iI a) (iI b) (iI c) (iI d) (iI 1) (jI b)) := step
      show E (B_X8_told_23 g _ m (iI a) (iI b) (iI c) (iI d) (iI 1))
      simp (disch := omega) only [i_lit, i_neg, i_add, i_sub, i_mul, i_ofNat, i_div, i_le, i_lt, i_eq, i_ix, i_inb, i_max, i_min, e_rem, j_lit, j_i, Int.reduceToNat, Int.reduceAdd, Int.reduceSub, Int.reduceMul, Int.reduceNeg, Int.reduceLT, Int.reduceLE, Int.reduceEq, gd_t, gd_T, ↓bd_m, ↓lh_t, ↓on_m, ↓ec_m, ↓reduceIte, if_true, if_false, true_and, and_true, false_and, and_false, true_or, or_true, false_or, or_false, Bool.false_eq_true, b2i_0, b2i_1, bl_0, bl_1, bl_b2, not_true_eq_false, not_false_eq_true, B_X8_told_23, ts.k, ts.r1, ts.k1, ts.l1, ts.r2, ts.k2, ts.l2, ts.r3, ts.k3, ts.l3, ts.r4, ts.k4, ts.l4, ts.r5, ts.k5, ts.l5, ts.r6, ts.k6, ts.l6, ts.r7, ts.k7, ts.l7, ts.r8, ts.k8, ts.l8, ts.r9, ts.k9, ts.l9, ts.r10, ts.k10, ts.l10, ts.r11, ts.k11, ts.l11, ts.r12, ts.k12, ts.l12, ts.r13, ts.k13, ts.l13, ts.r14, ts.k14, ts.l14, ts.r15, ts.k15, ts.l15, ts.r16, ts.k16, ts.l16, ts.r17, ts.k17, ts.l17, ts.r18, ts.k18, ts.l18, ts.r19, ts.k19, ts.l19, ts.r20, ts.k20, ts.l20, ti, o1]
      exact step
    · have o1 : (τ 0 ≤ 2) = False := eq_false (by omega)
      have step : E (B_X8_told_69 g (fun h a0 x1 x2 x3 x4 x5 => self (h, a0, x1, x2, x3, x4, x5)) m (iI a) (iI b) (iI c) (iI d) (iI 2) (jI c)) := step
      show E (B_X8_told_23 g _ m (iI a) (iI b) (iI c) (iI d) (iI 2))
      simp (disch := omega) only [i_lit, i_neg, i_add, i_sub, i_mul, i_ofNat, i_div, i_le, i_lt, i_eq, i_ix, i_inb, i_max, i_min, e_rem, j_lit, j_i, Int.reduceToNat, Int.reduceAdd, Int.reduceSub, Int.reduceMul, Int.reduceNeg, Int.reduceLT, Int.reduceLE, Int.reduceEq, gd_t, gd_T, ↓bd_m, ↓lh_t, ↓on_m, ↓ec_m, ↓reduceIte, if_true, if_false, true_and, and_true, false_and, and_false, true_or, or_true, false_or, or_false, Bool.false_eq_true, b2i_0, b2i_1, bl_0, bl_1, bl_b2, not_true_eq_false, not_false_eq_true, B_X8_told_23, ts.k, ts.r1, ts.k1, ts.l1, ts.r2, ts.k2, ts.l2, ts.r3, ts.k3, ts.l3, ts.r4, ts.k4, ts.l4, ts.r5, ts.k5, ts.l5, ts.r6, ts.k6, ts.l6, ts.r7, ts.k7, ts.l7, ts.r8, ts.k8, ts.l8, ts.r9, ts.k9, ts.l9, ts.r10, ts.k10, ts.l10, ts.r11, ts.k11, ts.l11, ts.r12, ts.k12, ts.l12, ts.r13, ts.k13, ts.l13, ts.r14, ts.k14, ts.l14, ts.r15, ts.k15, ts.l15, ts.r16, ts.k16, ts.l16, ts.r17, ts.k17, ts.l17, ts.r18, ts.k18, ts.l18, ts.r19, ts.k19, ts.l19, ts.r20, ts.k20, ts.l20, ti, o1]
      exact step
    · have o1 : (τ 0 ≤ 3) = False := eq_false (by omega)
      have step : E (B_X8_told_69 g (fun h a0 x1 x2 x3 x4 x5 => self (h, a0, x1, x2, x3, x4, x5)) m (iI a) (iI b) (iI c) (iI d) (iI 3) (jI d)) := step
      show E (B_X8_told_23 g _ m (iI a) (iI b) (iI c) (iI d) (iI 3))
      simp (disch := omega) only [i_lit, i_neg, i_add, i_sub, i_mul, i_ofNat, i_div, i_le, i_lt, i_eq, i_ix, i_inb, i_max, i_min, e_rem, j_lit, j_i, Int.reduceToNat, Int.reduceAdd, Int.reduceSub, Int.reduceMul, Int.reduceNeg, Int.reduceLT, Int.reduceLE, Int.reduceEq, gd_t, gd_T, ↓bd_m, ↓lh_t, ↓on_m, ↓ec_m, ↓reduceIte, if_true, if_false, true_and, and_true, false_and, and_false, true_or, or_true, false_or, or_false, Bool.false_eq_true, b2i_0, b2i_1, bl_0, bl_1, bl_b2, not_true_eq_false, not_false_eq_true, B_X8_told_23, ts.k, ts.r1, ts.k1, ts.l1, ts.r2, ts.k2, ts.l2, ts.r3, ts.k3, ts.l3, ts.r4, ts.k4, ts.l4, ts.r5, ts.k5, ts.l5, ts.r6, ts.k6, ts.l6, ts.r7, ts.k7, ts.l7, ts.r8, ts.k8, ts.l8, ts.r9, ts.k9, ts.l9, ts.r10, ts.k10, ts.l10, ts.r11, ts.k11, ts.l11, ts.r12, ts.k12, ts.l12, ts.r13, ts.k13, ts.l13, ts.r14, ts.k14, ts.l14, ts.r15, ts.k15, ts.l15, ts.r16, ts.k16, ts.l16, ts.r17, ts.k17, ts.l17, ts.r18, ts.k18, ts.l18, ts.r19, ts.k19, ts.l19, ts.r20, ts.k20, ts.l20, ti, o1]
      exact step
theorem chkC {o : Nat → Nat} {t : Nat} {h : AH} {x : Nat} {τ : Nat → Int} {υ : Nat → Int64} {e : Nat → Nat} {el : Nat → Nat → Nat} {lw : Nat} (c : CrP o t h x τ υ e el lw) {z : Nat} (cs : CS h z) (hz : hR h z 0 = some x) {D : Nat} (kD : hK h D = 100) (lD : hL h D = 4) {v : Nat → Int} (hv : ∀ s, s < 4 → hI h D s = iI (v s) ∧ i31 (v s)) (g : 1 ≤ hc h ∧ 6 ≤ hs h) {E : Option (ER Int32) → Prop} (H1 : (∀ s : Nat, (s : Int) < τ 0 → 0 ≤ v s ∧ v s ≤ 99) → E (B_X1_told_77 h z D)) (H2 : ¬ (∀ s : Nat, (s : Int) < τ 0 → 0 ≤ v s ∧ v s ≤ 99) → E (some (.inr (2, hn h, nw h 0 0 6)))) : E (G_X1_told_43 h z D (iI 0)) := by
  have hn4 := c.rg.n
  unfold G_X1_told_43
  refine lp_end (E := E) (fun st k => ∃ i : Nat, st = (h, z, D, iI i) ∧ (i : Int) ≤ τ 0 ∧ k = (τ 0 - i).toNat ∧ ∀ j : Nat, j < i → 0 ≤ v j ∧ v j ≤ 99) ?_ fuel (τ 0).toNat _ ⟨0, rfl, by omega, by omega, fun j hj => by omega⟩ (lt_fuel (by omega))
  rintro self st k ⟨i, rfl, h1, rfl, hP⟩ ih
  unfold L_X1_told_43
  by_cases ho : τ 0 ≤ (i : Int)
  · simp (disch := omega) only [i_lit, i_neg, i_add, i_sub, i_mul, i_ofNat, i_div, i_le, i_lt, i_eq, i_ix, i_inb, i_max, i_min, e_rem, j_lit, j_i, Int.reduceToNat, Int.reduceAdd, Int.reduceSub, Int.reduceMul, Int.reduceNeg, Int.reduceLT, Int.reduceLE, Int.reduceEq, gd_t, gd_T, ↓bd_m, ↓lh_t, ↓on_m, ↓ec_m, ↓reduceIte, if_true, if_false, true_and, and_true, false_and, and_false, true_or, or_true, false_or, or_false, Bool.false_eq_true, b2i_0, b2i_1, bl_0, bl_1, bl_b2, not_true_eq_false, not_false_eq_true, B_X1_told_43, cs.k, hz, c.k, many_eq c, ho]
    exact H1 (fun s hs => hP s (by omega))
  · obtain ⟨v1, v2⟩ := hv i (by omega)
    have e1 := isIn_eq h (a := v i) (b := 0) (c := 99) (by omega) (by omega) (by omega)
    by_cases q : 0 ≤ v i ∧ v i ≤ 99
    · rw [b2_t q] at e1
      have nx := ih (h, z, D, iI ((i + 1 : Nat) : Int)) (τ 0 - ((i + 1 : Nat) : Int)).toNat (by omega) ⟨i + 1, rfl, by omega, rfl, fun j hj => by
        by_cases w : j = i
        · subst w; exact q
        · exact hP j (by omega)⟩
      rw [show (((i + 1 : Nat)) : Int) = (i : Int) + 1 by omega] at nx
      simp (disch := omega) only [i_lit, i_neg, i_add, i_sub, i_mul, i_ofNat, i_div, i_le, i_lt, i_eq, i_ix, i_inb, i_max, i_min, e_rem, j_lit, j_i, Int.reduceToNat, Int.reduceAdd, Int.reduceSub, Int.reduceMul, Int.reduceNeg, Int.reduceLT, Int.reduceLE, Int.reduceEq, gd_t, gd_T, ↓bd_m, ↓lh_t, ↓on_m, ↓ec_m, ↓reduceIte, if_true, if_false, true_and, and_true, false_and, and_false, true_or, or_true, false_or, or_false, Bool.false_eq_true, b2i_0, b2i_1, bl_0, bl_1, bl_b2, not_true_eq_false, not_false_eq_true, B_X1_told_43, cs.k, hz, c.k, many_eq c, ho, kD, lD, v1, e1, right_t, Int.toNat_natCast]
      exact nx
    · rw [b2_f q] at e1
      simp (disch := omega) only [i_lit, i_neg, i_add, i_sub, i_mul, i_ofNat, i_div, i_le, i_lt, i_eq, i_ix, i_inb, i_max, i_min, e_rem, j_lit, j_i, Int.reduceToNat, Int.reduceAdd, Int.reduceSub, Int.reduceMul, Int.reduceNeg, Int.reduceLT, Int.reduceLE, Int.reduceEq, gd_t, gd_T, ↓bd_m, ↓lh_t, ↓on_m, ↓ec_m, ↓reduceIte, if_true, if_false, true_and, and_true, false_and, and_false, true_or, or_true, false_or, or_false, Bool.false_eq_true, b2i_0, b2i_1, bl_0, bl_1, bl_b2, not_true_eq_false, not_false_eq_true, B_X1_told_43, cs.k, hz, c.k, many_eq c, ho, kD, lD, v1, e1, right_f g, Int.toNat_natCast]
      exact H2 (fun u => q (u i (by omega)))
/-- the told row behind so many entries of a new board -/
def tdT (τ : Nat → Int) (a b c d : Int) (n s : Nat) (i : Nat) : Int := if 2909 + 4 * n ≤ i ∧ i < 2909 + 4 * n + s then tV a b c d (i - (2909 + 4 * n)) else τ i
theorem toldT {g0 : AH} {m : Nat} {τ : Nat → Int} (t0 : TN g0 m τ) (hn4 : 0 ≤ τ 0 ∧ τ 0 ≤ 4) {n : Nat} (hn : τ 5 = (n : Int)) (h60 : n < 60) {a b c d : Int} (ha : i31 a) (hb : i31 b) (hc : i31 c) (hd : i31 d) : ∃ g', G_X8_told_107 g0 m (iI a) (iI b) (iI c) (iI d) (iI 0) = some (iI ((n : Int) + 1), g') ∧ tf (fun x => x = m + 1) g0 g' ∧ TN g' m (upT (tdT τ a b c d n (τ 0).toNat) 5 ((n : Int) + 1)) := by
  have hv : ∀ i, i31 (tV a b c d i) := fun i => by unfold tV; split; exact ha; split; exact hb; split; exact hc; exact hd
  have key : Ok1 (G_X8_told_107 g0 m (iI a) (iI b) (iI c) (iI d) (iI 0)) (fun r => r.1 = iI ((n : Int) + 1) ∧ tf (fun x => x = m + 1) g0 r.2 ∧ TN r.2 m (upT (tdT τ a b c d n (τ 0).toNat) 5 ((n : Int) + 1))) := by
    unfold G_X8_told_107
    refine lp_ok (fun st k => ∃ (g : AH) (i : Nat), st = (g, m, iI a, iI b, iI c, iI d, iI i) ∧ (i : Int) ≤ τ 0 ∧ k = (τ 0 - i).toNat ∧ tf (fun x => x = m + 1) g0 g ∧ TN g m (tdT τ a b c d n i)) ?_ fuel (τ 0).toNat _ ⟨g0, 0, rfl, by omega, by omega, tf.rfl, ⟨t0.s, fun i => by rw [t0.i i]; unfold tdT; rw [if_neg (by omega)], fun i => by unfold tdT; rw [if_neg (by omega)]; exact t0.g i⟩⟩ (lt_fuel (by omega))
    rintro self st k ⟨g, i, rfl, h1, rfl, T, t⟩ ih
    have ts := t.s
    have i0 := t.i 0
    have i5 := t.i 5
    rw [show tdT τ a b c d n i 0 = τ 0 by unfold tdT; rw [if_neg (by omega)]] at i0
    rw [show tdT τ a b c d n i 5 = (n : Int) by unfold tdT; rw [if_neg (by omega)]; exact hn] at i5
    unfold L_X8_told_107
    by_cases ho : τ 0 ≤ (i : Int)
    · rw [show (τ 0).toNat = i by omega]
      have tS := t.set 5 (v := (n : Int) + 1) (by omega)
      have v5 := tS.i 5
      rw [upT_s] at v5
      simp (disch := omega) only [i_lit, i_neg, i_add, i_sub, i_mul, i_ofNat, i_div, i_le, i_lt, i_eq, i_ix, i_inb, i_max, i_min, e_rem, j_lit, j_i, Int.reduceToNat, Int.reduceAdd, Int.reduceSub, Int.reduceMul, Int.reduceNeg, Int.reduceLT, Int.reduceLE, Int.reduceEq, gd_t, gd_T, ↓bd_m, ↓lh_t, ↓on_m, ↓ec_m, ↓reduceIte, if_true, if_false, true_and, and_true, false_and, and_false, true_or, or_true, false_or, or_false, Bool.false_eq_true, b2i_0, b2i_1, bl_0, bl_1, bl_b2, not_true_eq_false, not_false_eq_true, B_X8_told_107, B_X8_told_175, B_X8_told_185, ts.k, ts.r1, ts.k1, ts.l1, ts.r2, ts.k2, ts.l2, ts.r3, ts.k3, ts.l3, ts.r4, ts.k4, ts.l4, ts.r5, ts.k5, ts.l5, ts.r6, ts.k6, ts.l6, ts.r7, ts.k7, ts.l7, ts.r8, ts.k8, ts.l8, ts.r9, ts.k9, ts.l9, ts.r10, ts.k10, ts.l10, ts.r11, ts.k11, ts.l11, ts.r12, ts.k12, ts.l12, ts.r13, ts.k13, ts.l13, ts.r14, ts.k14, ts.l14, ts.r15, ts.k15, ts.l15, ts.r16, ts.k16, ts.l16, ts.r17, ts.k17, ts.l17, ts.r18, ts.k18, ts.l18, ts.r19, ts.k19, ts.l19, ts.r20, ts.k20, ts.l20, i0, i5, ho, hK_wI, hL_wI, hR_wI, v5]
      exact Ok1.some ⟨rfl, T.trans (tf_wI rfl), tS⟩
    · have y : (2909 + 4 * (n : Int) + (i : Int)).toNat = 2909 + 4 * n + i := by omega
      have step : Ok1 (B_X8_told_168 g (fun h a0 x1 x2 x3 x4 x5 => self (h, a0, x1, x2, x3, x4, x5)) m (iI a) (iI b) (iI c) (iI d) (iI i) (iI (tV a b c d i)) (iI (2909 + 4 * (n : Int) + (i : Int))) (m + 1)) (fun r => r.1 = iI ((n : Int) + 1) ∧ tf (fun x => x = m + 1) g0 r.2 ∧ TN r.2 m (upT (tdT τ a b c d n (τ 0).toNat) 5 ((n : Int) + 1))) := by
        have tS := t.set (2909 + 4 * n + i) (v := tV a b c d i) (hv i)
        have eq : upT (tdT τ a b c d n i) (2909 + 4 * n + i) (tV a b c d i) = tdT τ a b c d n (i + 1) := by
          funext j
          unfold upT tdT
          by_cases q : j = 2909 + 4 * n + i
          · rw [if_pos q, if_pos (by omega), show j - (2909 + 4 * n) = i by omega]
          · rw [if_neg q]
            by_cases q2 : 2909 + 4 * n ≤ j ∧ j < 2909 + 4 * n + i
            · rw [if_pos q2, if_pos (by omega)]
            · rw [if_neg q2, if_neg (by omega)]
        rw [eq] at tS
        have nx := ih (wI g (m + 1) (2909 + 4 * n + i) (iI (tV a b c d i)), m, iI a, iI b, iI c, iI d, iI ((i + 1 : Nat) : Int)) (τ 0 - ((i + 1 : Nat) : Int)).toNat (by omega) ⟨_, i + 1, rfl, by omega, rfl, T.trans (tf_wI rfl), tS⟩
        rw [show (((i + 1 : Nat)) : Int) = (i : Int) + 1 by omega] at nx
        simp (disch := omega) only [i_lit, i_neg, i_add, i_sub, i_mul, i_ofNat, i_div, i_le, i_lt, i_eq, i_ix, i_inb, i_max, i_min, e_rem, j_lit, j_i, Int.reduceToNat, Int.reduceAdd, Int.reduceSub, Int.reduceMul, Int.reduceNeg, Int.reduceLT, Int.reduceLE, Int.reduceEq, gd_t, gd_T, ↓bd_m, ↓lh_t, ↓on_m, ↓ec_m, ↓reduceIte, if_true, if_false, true_and, and_true, false_and, and_false, true_or, or_true, false_or, or_false, Bool.false_eq_true, b2i_0, b2i_1, bl_0, bl_1, bl_b2, not_true_eq_false, not_false_eq_true, B_X8_told_168, B_X8_told_169, ts.k, ts.r1, ts.k1, ts.l1, ts.r2, ts.k2, ts.l2, ts.r3, ts.k3, ts.l3, ts.r4, ts.k4, ts.l4, ts.r5, ts.k5, ts.l5, ts.r6, ts.k6, ts.l6, ts.r7, ts.k7, ts.l7, ts.r8, ts.k8, ts.l8, ts.r9, ts.k9, ts.l9, ts.r10, ts.k10, ts.l10, ts.r11, ts.k11, ts.l11, ts.r12, ts.k12, ts.l12, ts.r13, ts.k13, ts.l13, ts.r14, ts.k14, ts.l14, ts.r15, ts.k15, ts.l15, ts.r16, ts.k16, ts.l16, ts.r17, ts.k17, ts.l17, ts.r18, ts.k18, ts.l18, ts.r19, ts.k19, ts.l19, ts.r20, ts.k20, ts.l20, y]
        exact nx
      rcases (show i = 0 ∨ i = 1 ∨ i = 2 ∨ i = 3 by omega) with rfl | rfl | rfl | rfl
      · have o1 : (τ 0 ≤ 0) = False := eq_false (by omega)
        have y0 : 2909 + 4 * (n : Int) + 0 = 2909 + 4 * (n : Int) + ((0 : Nat) : Int) := rfl
        show Ok1 (B_X8_told_107 g _ m (iI a) (iI b) (iI c) (iI d) (iI 0)) _
        simp (disch := omega) only [i_lit, i_neg, i_add, i_sub, i_mul, i_ofNat, i_div, i_le, i_lt, i_eq, i_ix, i_inb, i_max, i_min, e_rem, j_lit, j_i, Int.reduceToNat, Int.reduceAdd, Int.reduceSub, Int.reduceMul, Int.reduceNeg, Int.reduceLT, Int.reduceLE, Int.reduceEq, gd_t, gd_T, ↓bd_m, ↓lh_t, ↓on_m, ↓ec_m, ↓reduceIte, if_true, if_false, true_and, and_true, false_and, and_false, true_or, or_true, false_or, or_false, Bool.false_eq_true, b2i_0, b2i_1, bl_0, bl_1, bl_b2, not_true_eq_false, not_false_eq_true, B_X8_told_107, ts.k, ts.r1, ts.k1, ts.l1, ts.r2, ts.k2, ts.l2, ts.r3, ts.k3, ts.l3, ts.r4, ts.k4, ts.l4, ts.r5, ts.k5, ts.l5, ts.r6, ts.k6, ts.l6, ts.r7, ts.k7, ts.l7, ts.r8, ts.k8, ts.l8, ts.r9, ts.k9, ts.l9, ts.r10, ts.k10, ts.l10, ts.r11, ts.k11, ts.l11, ts.r12, ts.k12, ts.l12, ts.r13, ts.k13, ts.l13, ts.r14, ts.k14, ts.l14, ts.r15, ts.k15, ts.l15, ts.r16, ts.k16, ts.l16, ts.r17, ts.k17, ts.l17, ts.r18, ts.k18, ts.l18, ts.r19, ts.k19, ts.l19, ts.r20, ts.k20, ts.l20, i0, i5, o1]
        exact step
      · have o1 : (τ 0 ≤ 1) = False := eq_false (by omega)
        show Ok1 (B_X8_told_107 g _ m (iI a) (iI b) (iI c) (iI d) (iI 1)) _
        simp (disch := omega) only [i_lit, i_neg, i_add, i_sub, i_mul, i_ofNat, i_div, i_le, i_lt, i_eq, i_ix, i_inb, i_max, i_min, e_rem, j_lit, j_i, Int.reduceToNat, Int.reduceAdd, Int.reduceSub, Int.reduceMul, Int.reduceNeg, Int.reduceLT, Int.reduceLE, Int.reduceEq, gd_t, gd_T, ↓bd_m, ↓lh_t, ↓on_m, ↓ec_m, ↓reduceIte, if_true, if_false, true_and, and_true, false_and, and_false, true_or, or_true, false_or, or_false, Bool.false_eq_true, b2i_0, b2i_1, bl_0, bl_1, bl_b2, not_true_eq_false, not_false_eq_true, B_X8_told_107, ts.k, ts.r1, ts.k1, ts.l1, ts.r2, ts.k2, ts.l2, ts.r3, ts.k3, ts.l3, ts.r4, ts.k4, ts.l4, ts.r5, ts.k5, ts.l5, ts.r6, ts.k6, ts.l6, ts.r7, ts.k7, ts.l7, ts.r8, ts.k8, ts.l8, ts.r9, ts.k9, ts.l9, ts.r10, ts.k10, ts.l10, ts.r11, ts.k11, ts.l11, ts.r12, ts.k12, ts.l12, ts.r13, ts.k13, ts.l13, ts.r14, ts.k14, ts.l14, ts.r15, ts.k15, ts.l15, ts.r16, ts.k16, ts.l16, ts.r17, ts.k17, ts.l17, ts.r18, ts.k18, ts.l18, ts.r19, ts.k19, ts.l19, ts.r20, ts.k20, ts.l20, i0, i5, o1]
        exact step
      · have o1 : (τ 0 ≤ 2) = False := eq_false (by omega)
        show Ok1 (B_X8_told_107 g _ m (iI a) (iI b) (iI c) (iI d) (iI 2)) _
        simp (disch := omega) only [i_lit, i_neg, i_add, i_sub, i_mul, i_ofNat, i_div, i_le, i_lt, i_eq, i_ix, i_inb, i_max, i_min, e_rem, j_lit, j_i, Int.reduceToNat, Int.reduceAdd, Int.reduceSub, Int.reduceMul, Int.reduceNeg, Int.reduceLT, Int.reduceLE, Int.reduceEq, gd_t, gd_T, ↓bd_m, ↓lh_t, ↓on_m, ↓ec_m, ↓reduceIte, if_true, if_false, true_and, and_true, false_and, and_false, true_or, or_true, false_or, or_false, Bool.false_eq_true, b2i_0, b2i_1, bl_0, bl_1, bl_b2, not_true_eq_false, not_false_eq_true, B_X8_told_107, ts.k, ts.r1, ts.k1, ts.l1, ts.r2, ts.k2, ts.l2, ts.r3, ts.k3, ts.l3, ts.r4, ts.k4, ts.l4, ts.r5, ts.k5, ts.l5, ts.r6, ts.k6, ts.l6, ts.r7, ts.k7, ts.l7, ts.r8, ts.k8, ts.l8, ts.r9, ts.k9, ts.l9, ts.r10, ts.k10, ts.l10, ts.r11, ts.k11, ts.l11, ts.r12, ts.k12, ts.l12, ts.r13, ts.k13, ts.l13, ts.r14, ts.k14, ts.l14, ts.r15, ts.k15, ts.l15, ts.r16, ts.k16, ts.l16, ts.r17, ts.k17, ts.l17, ts.r18, ts.k18, ts.l18, ts.r19, ts.k19, ts.l19, ts.r20, ts.k20, ts.l20, i0, i5, o1]
        exact step
      · have o1 : (τ 0 ≤ 3) = False := eq_false (by omega)
        show Ok1 (B_X8_told_107 g _ m (iI a) (iI b) (iI c) (iI d) (iI 3)) _
        simp (disch := omega) only [i_lit, i_neg, i_add, i_sub, i_mul, i_ofNat, i_div, i_le, i_lt, i_eq, i_ix, i_inb, i_max, i_min, e_rem, j_lit, j_i, Int.reduceToNat, Int.reduceAdd, Int.reduceSub, Int.reduceMul, Int.reduceNeg, Int.reduceLT, Int.reduceLE, Int.reduceEq, gd_t, gd_T, ↓bd_m, ↓lh_t, ↓on_m, ↓ec_m, ↓reduceIte, if_true, if_false, true_and, and_true, false_and, and_false, true_or, or_true, false_or, or_false, Bool.false_eq_true, b2i_0, b2i_1, bl_0, bl_1, bl_b2, not_true_eq_false, not_false_eq_true, B_X8_told_107, ts.k, ts.r1, ts.k1, ts.l1, ts.r2, ts.k2, ts.l2, ts.r3, ts.k3, ts.l3, ts.r4, ts.k4, ts.l4, ts.r5, ts.k5, ts.l5, ts.r6, ts.k6, ts.l6, ts.r7, ts.k7, ts.l7, ts.r8, ts.k8, ts.l8, ts.r9, ts.k9, ts.l9, ts.r10, ts.k10, ts.l10, ts.r11, ts.k11, ts.l11, ts.r12, ts.k12, ts.l12, ts.r13, ts.k13, ts.l13, ts.r14, ts.k14, ts.l14, ts.r15, ts.k15, ts.l15, ts.r16, ts.k16, ts.l16, ts.r17, ts.k17, ts.l17, ts.r18, ts.k18, ts.l18, ts.r19, ts.k19, ts.l19, ts.r20, ts.k20, ts.l20, i0, i5, o1]
        exact step
  obtain ⟨⟨v, g'⟩, k1, k2, k3, k4⟩ := key
  have k2 : v = iI ((n : Int) + 1) := k2
  subst k2
  exact ⟨g', k1, k3, k4⟩
/-- a new row of four -/
theorem row4 {o : Nat → Nat} {hC hT : AH} {z m x : Nat} {τ : Nat → Int} {υ : Nat → Int64} {e : Nat → Nat} {el : Nat → Nat → Nat} {lw : Nat} (r : RL o hC hT z m x τ υ e el lw) (g : rm z hC) (a b c d : Int) : ∃ hD, wI (wI (wI (wI (nw hC 100 4 4) (hn hC) 0 (iI a)) (hn hC) 1 (iI b)) (hn hC) 2 (iI c)) (hn hC) 3 (iI d) = hD ∧ hn hD = hn hC + 1 ∧ hc hD = hc hC - 1 ∧ hs hD = hs hC - 4 ∧ (∀ u, u ≠ hn hC → sm hC hD u) ∧ hK hD (hn hC) = 100 ∧ hL hD (hn hC) = 4 ∧ (∀ s, s < 4 → hI hD (hn hC) s = iI (tV a b c d s)) ∧ RL o hD hT z m x τ υ e el lw := by
  generalize hH : wI (wI (wI (wI (nw hC 100 4 4) (hn hC) 0 (iI a)) (hn hC) 1 (iI b)) (hn hC) 2 (iI c)) (hn hC) 3 (iI d) = hD
  have sD : ∀ u, u ≠ hn hC → sm hC hD u := fun u ha => by rw [← hH]; exact (sm_nw ha).trans ((sm_wI ha).trans ((sm_wI ha).trans ((sm_wI ha).trans (sm_wI ha))))
  have kD : hK hD (hn hC) = 100 := by rw [← hH]; show hK (nw hC 100 4 4) (hn hC) = 100; rw [hK_nw, if_pos rfl]
  have nD : hn hD = hn hC + 1 := by rw [← hH]; rfl
  refine ⟨hD, rfl, nD, by rw [← hH]; rfl, by rw [← hH]; rfl, sD, kD, ?_, fun s hs => ?_, ?_⟩
  · rw [← hH]; show hL (nw hC 100 4 4) (hn hC) = 4; rw [hL_nw, if_pos rfl]
  · rw [← hH]
    rcases (show s = 0 ∨ s = 1 ∨ s = 2 ∨ s = 3 by omega) with rfl | rfl | rfl | rfl
    · rw [hI_wI, if_neg (by omega), hI_wI, if_neg (by omega), hI_wI, if_neg (by omega), hI_wI, if_pos ⟨rfl, rfl⟩]; rfl
    · rw [hI_wI, if_neg (by omega), hI_wI, if_neg (by omega), hI_wI, if_pos ⟨rfl, rfl⟩]; rfl
    · rw [hI_wI, if_neg (by omega), hI_wI, if_pos ⟨rfl, rfl⟩]; rfl
    · rw [hI_wI, if_pos ⟨rfl, rfl⟩]; rfl
  · refine r.grow (fun u q => sD u (by omega)) (by omega) (fun u q => by rw [(sD u (by omega)).1]; exact (r.ho u (by omega)).1) (fun u q => ?_)
    by_cases w : u = hn hC
    · rw [w, kD]; omega
    · rw [(sD u w).1, (r.ho u q).1]; omega
