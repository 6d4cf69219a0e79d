/-! PURE C: leaves of the reference -/
set_option maxRecDepth 100000
abbrev j63 (z : Int) : Prop := -9223372036854775808 ≤ z ∧ z < 9223372036854775808
theorem within_eq (h : AH) {a b c : Int} (ha : j63 a) (hb : j63 b) (hc : j63 c) : F_X8_within h (jI a) (jI b) (jI c) = some (b2 (b ≤ a ∧ a ≤ c)) := by
  unfold F_X8_within B_X8_within_17 B_X8_within_18
  simp only [lg_lt ha hb, lg_gt ha hc]
  by_cases h1 : a < b
  · rw [if_pos h1, gd_t _ (Or.inl rfl), b2_f (by omega)]
  · rw [if_neg h1]
    by_cases h2 : c < a
    · rw [if_pos h2, gd_t _ (Or.inl rfl), b2_f (by omega)]
    · rw [if_neg h2, gd_t _ (Or.inr rfl), b2_t (by omega)]
theorem isIn_eq (h : AH) {a b c : Int} (ha : j63 a) (hb : j63 b) (hc : j63 c) : F_X1_isIn h (jI a) (jI b) (jI c) = some (b2 (b ≤ a ∧ a ≤ c)) := by
  unfold F_X1_isIn B_X1_isIn_17 B_X1_isIn_18
  simp only [lg_lt ha hb, lg_gt ha hc]
  by_cases h1 : a < b
  · rw [if_pos h1, gd_t _ (Or.inl rfl), b2_f (by omega)]
  · rw [if_neg h1]
    by_cases h2 : c < a
    · rw [if_pos h2, gd_t _ (Or.inl rfl), b2_f (by omega)]
    · rw [if_neg h2, gd_t _ (Or.inr rfl), b2_t (by omega)]
/-- the reference's told row, by its numbers -/
def TN (h : AH) (m : Nat) (τ : Nat → Int) : Prop := TS h m ∧ (∀ i, hI h (m + 1) i = iI (τ i)) ∧ ∀ i, i31 (τ i)
theorem TN.s {h : AH} {m : Nat} {τ : Nat → Int} (t : TN h m τ) : TS h m := t.1
theorem TN.i {h : AH} {m : Nat} {τ : Nat → Int} (t : TN h m τ) : ∀ i, hI h (m + 1) i = iI (τ i) := t.2.1
theorem TN.g {h : AH} {m : Nat} {τ : Nat → Int} (t : TN h m τ) : ∀ i, i31 (τ i) := t.2.2
theorem isStation_eq {h : AH} {m : Nat} {τ : Nat → Int} (t : TN h m τ) (hN : 0 ≤ τ 0 ∧ τ 0 ≤ 4) {x : Int} (hx : i31 x) : F_X8_isStation h m (iI x) = some (b2 (0 ≤ x ∧ x ≤ τ 0 - 1)) := by
  have ts := t.s
  have ti := t.i
  unfold F_X8_isStation
  simp (disch := omega) only [i_lit, i_neg, i_add, i_sub, i_mul, i_ofNat, i_div, i_le, i_lt, i_eq, i_ix, i_inb, i_max, i_min, e_rem, j_lit, j_i, Int.reduceToNat, Int.reduceAdd, Int.reduceSub, Int.reduceMul, Int.reduceNeg, Int.reduceLT, Int.reduceLE, Int.reduceEq, gd_t, gd_T, bd_t, lh_t, on_s, on_n, ec_l, ec_r, if_true, if_false, true_and, and_true, false_and, and_false, true_or, or_true, false_or, or_false, Bool.false_eq_true, b2i_0, b2i_1, bl_0, bl_1, bl_b2, not_true_eq_false, not_false_eq_true, ts.k, ts.r1, ts.k1, ts.l1, ts.r2, ts.k2, ts.l2, ts.r3, ts.k3, ts.l3, ts.r4, ts.k4, ts.l4, ts.r5, ts.k5, ts.l5, ts.r6, ts.k6, ts.l6, ts.r7, ts.k7, ts.l7, ts.r8, ts.k8, ts.l8, ts.r9, ts.k9, ts.l9, ts.r10, ts.k10, ts.l10, ts.r11, ts.k11, ts.l11, ts.r12, ts.k12, ts.l12, ts.r13, ts.k13, ts.l13, ts.r14, ts.k14, ts.l14, ts.r15, ts.k15, ts.l15, ts.r16, ts.k16, ts.l16, ts.r17, ts.k17, ts.l17, ts.r18, ts.k18, ts.l18, ts.r19, ts.k19, ts.l19, ts.r20, ts.k20, ts.l20, ti, Int.toNat_zero, within_eq]
def seenS (τ : Nat → Int) (bt : Bool) (s x : Int) : Int := if bt then τ (2909 + 4 * max 0 x + s).toNat else if 0 ≤ x then τ (1885 + 4 * (x % 256) + s).toNat else τ (20 + s).toNat
theorem seen_eq {h : AH} {m : Nat} {τ : Nat → Int} (t : TN h m τ) {bt : Bool} (hb : hI h m 23 = b2 (bt = true)) {s x : Int} (hs : 0 ≤ s ∧ s < 4) (hx : -10 ≤ x ∧ x ≤ 3000) (hx2 : bt = true → x < 60) : F_X8_seen h m (iI s) (iI x) = some (iI (seenS τ bt s x)) := by
  have ts := t.s
  have ti := t.i
  unfold F_X8_seen B_X8_seen_60 seenS
  cases bt with
  | false =>
    by_cases h0 : 0 ≤ x
    · simp (disch := omega) only [i_lit, i_neg, i_add, i_sub, i_mul, i_ofNat, i_div, i_le, i_lt, i_eq, i_ix, i_inb, i_max, i_min, e_rem, j_lit, j_i, Int.reduceToNat, Int.reduceAdd, Int.reduceSub, Int.reduceMul, Int.reduceNeg, Int.reduceLT, Int.reduceLE, Int.reduceEq, gd_t, gd_T, bd_t, lh_t, on_s, on_n, ec_l, ec_r, if_true, if_false, true_and, and_true, false_and, and_false, true_or, or_true, false_or, or_false, Bool.false_eq_true, b2i_0, b2i_1, bl_0, bl_1, bl_b2, not_true_eq_false, not_false_eq_true, ts.k, ts.r1, ts.k1, ts.l1, ts.r2, ts.k2, ts.l2, ts.r3, ts.k3, ts.l3, ts.r4, ts.k4, ts.l4, ts.r5, ts.k5, ts.l5, ts.r6, ts.k6, ts.l6, ts.r7, ts.k7, ts.l7, ts.r8, ts.k8, ts.l8, ts.r9, ts.k9, ts.l9, ts.r10, ts.k10, ts.l10, ts.r11, ts.k11, ts.l11, ts.r12, ts.k12, ts.l12, ts.r13, ts.k13, ts.l13, ts.r14, ts.k14, ts.l14, ts.r15, ts.k15, ts.l15, ts.r16, ts.k16, ts.l16, ts.r17, ts.k17, ts.l17, ts.r18, ts.k18, ts.l18, ts.r19, ts.k19, ts.l19, ts.r20, ts.k20, ts.l20, ti, hb, h0]
    · simp (disch := omega) only [i_lit, i_neg, i_add, i_sub, i_mul, i_ofNat, i_div, i_le, i_lt, i_eq, i_ix, i_inb, i_max, i_min, e_rem, j_lit, j_i, Int.reduceToNat, Int.reduceAdd, Int.reduceSub, Int.reduceMul, Int.reduceNeg, Int.reduceLT, Int.reduceLE, Int.reduceEq, gd_t, gd_T, bd_t, lh_t, on_s, on_n, ec_l, ec_r, if_true, if_false, true_and, and_true, false_and, and_false, true_or, or_true, false_or, or_false, Bool.false_eq_true, b2i_0, b2i_1, bl_0, bl_1, bl_b2, not_true_eq_false, not_false_eq_true, ts.k, ts.r1, ts.k1, ts.l1, ts.r2, ts.k2, ts.l2, ts.r3, ts.k3, ts.l3, ts.r4, ts.k4, ts.l4, ts.r5, ts.k5, ts.l5, ts.r6, ts.k6, ts.l6, ts.r7, ts.k7, ts.l7, ts.r8, ts.k8, ts.l8, ts.r9, ts.k9, ts.l9, ts.r10, ts.k10, ts.l10, ts.r11, ts.k11, ts.l11, ts.r12, ts.k12, ts.l12, ts.r13, ts.k13, ts.l13, ts.r14, ts.k14, ts.l14, ts.r15, ts.k15, ts.l15, ts.r16, ts.k16, ts.l16, ts.r17, ts.k17, ts.l17, ts.r18, ts.k18, ts.l18, ts.r19, ts.k19, ts.l19, ts.r20, ts.k20, ts.l20, ti, hb, h0]
  | true =>
    have hx3 := hx2 rfl
    simp (disch := omega) only [i_lit, i_neg, i_add, i_sub, i_mul, i_ofNat, i_div, i_le, i_lt, i_eq, i_ix, i_inb, i_max, i_min, e_rem, j_lit, j_i, Int.reduceToNat, Int.reduceAdd, Int.reduceSub, Int.reduceMul, Int.reduceNeg, Int.reduceLT, Int.reduceLE, Int.reduceEq, gd_t, gd_T, bd_t, lh_t, on_s, on_n, ec_l, ec_r, if_true, if_false, true_and, and_true, false_and, and_false, true_or, or_true, false_or, or_false, Bool.false_eq_true, b2i_0, b2i_1, bl_0, bl_1, bl_b2, not_true_eq_false, not_false_eq_true, ts.k, ts.r1, ts.k1, ts.l1, ts.r2, ts.k2, ts.l2, ts.r3, ts.k3, ts.l3, ts.r4, ts.k4, ts.l4, ts.r5, ts.k5, ts.l5, ts.r6, ts.k6, ts.l6, ts.r7, ts.k7, ts.l7, ts.r8, ts.k8, ts.l8, ts.r9, ts.k9, ts.l9, ts.r10, ts.k10, ts.l10, ts.r11, ts.k11, ts.l11, ts.r12, ts.k12, ts.l12, ts.r13, ts.k13, ts.l13, ts.r14, ts.k14, ts.l14, ts.r15, ts.k15, ts.l15, ts.r16, ts.k16, ts.l16, ts.r17, ts.k17, ts.l17, ts.r18, ts.k18, ts.l18, ts.r19, ts.k19, ts.l19, ts.r20, ts.k20, ts.l20, ti, hb]
