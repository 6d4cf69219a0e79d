/-! PURE M: conditions and wishes -/
set_option maxRecDepth 100000
theorem isSo_run {g : AH} {f : Nat} {τ σ : Nat → Int} {B : Nat} {bt : Bool} {s x : Int} (r : SR τ bt s x) (hf1 : hK g f = 100) (hf2 : hL g f = 9) (hf3 : ∀ k : Nat, k < 9 → hI g f k = iI (worthS τ bt s x (100 + k))) (hσ : ∀ i, σ i = τ (B + i)) {c p q : Nat} (hE : TermE σ g 450 true c p q) (hq : q ≤ 440) (hB : B + q ≤ 3179) :
    ∃ v, F_of 450 g c f = some v ∧ bl v ∧ ∀ (hT : AH) (m : Nat), TN hT m τ → hI hT m 23 = b2 (bt = true) → Ok1 (F_X8_isSo hT m (iI (B + p)) (iI (q - p)) (iI s) (iI x)) (fun r => r.1 = v ∧ tf (fun a => a = m + 9) hT r.2) := by
  have hlt := TermE.lt _ _ _ _ _ hE
  obtain ⟨v, v1, v2, -⟩ := term_run (m := 0) (B := B) (F := B + p) (M := q - p) (Q := fun _ => True) r hf1 hf2 hf3 hσ (by omega) 450 true c p q hE
  refine ⟨v, v1, v2 rfl, ?_⟩
  intro hT m t hb
  obtain ⟨w, w1, -, w3⟩ := term_run (m := m) (B := B) (F := B + p) (M := q - p) (Q := fun r => r.1 = v ∧ tf (fun a => a = m + 9) hT r.2) r hf1 hf2 hf3 hσ (by omega) 450 true c p q hE
  rw [v1] at w1
  cases w1
  unfold F_X8_isSo G_X8_isSo_6
  rw [show fuel = (fuel - (q - p)) + (q - p) by unfold fuel; omega]
  refine w3 (fuel - (q - p)) hT 0 t hb (by omega) (by omega) ?_
  intro h' t1 t2 t3
  have t' := t.tf t1 (by omega)
  have ts := t'.s
  rw [show fuel - (q - p) = (fuel - (q - p) - 1) + 1 by unfold fuel; omega, lp]
  generalize lp (L_X8_isSo_6 g) (fuel - (q - p) - 1) = self
  unfold L_X8_isSo_6 B_X8_isSo_6 B_X8_isSo_121 B_X8_isSo_135 B_X8_isSo_140
  have e1 : ((B : Int) + (p : Int) + ((q : Int) - (p : Int)) ≤ (B : Int) + (q : Int)) = True := eq_true (by omega)
  have e2 : ((q : Int) - (p : Int) = 0) = False := eq_false (by omega)
  rcases v2 rfl with q1 | q1
  · subst q1
    simp (disch := omega) only [i_lit, i_neg, i_add, i_sub, i_mul, i_ofNat, i_div, i_le, i_lt, i_eq, i_ix, i_inb, i_max, i_min, e_rem, j_lit, j_i, Int.reduceToNat, Int.reduceAdd, Int.reduceSub, Int.reduceMul, Int.reduceNeg, Int.reduceLT, Int.reduceLE, Int.reduceEq, gd_t, gd_T, bd_t, lh_t, on_s, on_n, ec_l, ec_r, if_true, if_false, true_and, and_true, false_and, and_false, true_or, or_true, false_or, or_false, Bool.false_eq_true, b2i_0, b2i_1, bl_0, bl_1, bl_b2, not_true_eq_false, not_false_eq_true, ts.k, ts.r1, ts.k1, ts.l1, ts.r2, ts.k2, ts.l2, ts.r3, ts.k3, ts.l3, ts.r4, ts.k4, ts.l4, ts.r5, ts.k5, ts.l5, ts.r6, ts.k6, ts.l6, ts.r7, ts.k7, ts.l7, ts.r8, ts.k8, ts.l8, ts.r9, ts.k9, ts.l9, ts.r10, ts.k10, ts.l10, ts.r11, ts.k11, ts.l11, ts.r12, ts.k12, ts.l12, ts.r13, ts.k13, ts.l13, ts.r14, ts.k14, ts.l14, ts.r15, ts.k15, ts.l15, ts.r16, ts.k16, ts.l16, ts.r17, ts.k17, ts.l17, ts.r18, ts.k18, ts.l18, ts.r19, ts.k19, ts.l19, ts.r20, ts.k20, ts.l20, e1, e2, t2]
    exact Ok1.some ⟨rfl, t1⟩
  · subst q1
    simp (disch := omega) only [i_lit, i_neg, i_add, i_sub, i_mul, i_ofNat, i_div, i_le, i_lt, i_eq, i_ix, i_inb, i_max, i_min, e_rem, j_lit, j_i, Int.reduceToNat, Int.reduceAdd, Int.reduceSub, Int.reduceMul, Int.reduceNeg, Int.reduceLT, Int.reduceLE, Int.reduceEq, gd_t, gd_T, bd_t, lh_t, on_s, on_n, ec_l, ec_r, if_true, if_false, true_and, and_true, false_and, and_false, true_or, or_true, false_or, or_false, Bool.false_eq_true, b2i_0, b2i_1, bl_0, bl_1, bl_b2, not_true_eq_false, not_false_eq_true, ts.k, ts.r1, ts.k1, ts.l1, ts.r2, ts.k2, ts.l2, ts.r3, ts.k3, ts.l3, ts.r4, ts.k4, ts.l4, ts.r5, ts.k5, ts.l5, ts.r6, ts.k6, ts.l6, ts.r7, ts.k7, ts.l7, ts.r8, ts.k8, ts.l8, ts.r9, ts.k9, ts.l9, ts.r10, ts.k10, ts.l10, ts.r11, ts.k11, ts.l11, ts.r12, ts.k12, ts.l12, ts.r13, ts.k13, ts.l13, ts.r14, ts.k14, ts.l14, ts.r15, ts.k15, ts.l15, ts.r16, ts.k16, ts.l16, ts.r17, ts.k17, ts.l17, ts.r18, ts.k18, ts.l18, ts.r19, ts.k19, ts.l19, ts.r20, ts.k20, ts.l20, e1, e2, t2]
    exact Ok1.some ⟨rfl, t1⟩
theorem isSo_none {hT : AH} {m : Nat} {τ : Nat → Int} (t : TN hT m τ) {F s x : Int} (hF : 0 ≤ F ∧ F ≤ 3179) : F_X8_isSo hT m (iI F) (iI 0) (iI s) (iI x) = some (1, hT) := by
  unfold F_X8_isSo G_X8_isSo_6
  rw [show fuel = (fuel - 1) + 1 by unfold fuel; omega, lp]
  generalize lp (L_X8_isSo_6 hT) (fuel - 1) = self
  unfold L_X8_isSo_6 B_X8_isSo_6 B_X8_isSo_121 B_X8_isSo_135 B_X8_isSo_140
  have e1 : (F + 0 ≤ F) = True := eq_true (by omega)
  simp (disch := omega) only [i_lit, i_neg, i_add, i_sub, i_mul, i_ofNat, i_div, i_le, i_lt, i_eq, i_ix, i_inb, i_max, i_min, e_rem, j_lit, j_i, Int.reduceToNat, Int.reduceAdd, Int.reduceSub, Int.reduceMul, Int.reduceNeg, Int.reduceLT, Int.reduceLE, Int.reduceEq, gd_t, gd_T, bd_t, lh_t, on_s, on_n, ec_l, ec_r, if_true, if_false, true_and, and_true, false_and, and_false, true_or, or_true, false_or, or_false, Bool.false_eq_true, b2i_0, b2i_1, bl_0, bl_1, bl_b2, not_true_eq_false, not_false_eq_true, e1]
theorem SR.of {τ : Nat → Int} (r : RG τ) {bt : Bool} {s x : Int} (hs : 0 ≤ s ∧ s < τ 0) (hx : 0 ≤ x ∧ x ≤ 3000) (h2 : bt = true → x ≤ 60) : SR τ bt s x := by
  have hn := r.n
  have h1 := r.late s.toNat (by omega)
  have h3 := r.chg s.toNat (by omega)
  rw [show 16 + s.toNat = (16 + s).toNat by omega] at h1
  rw [show 24 + s.toNat = (24 + s).toNat by omega] at h3
  exact ⟨hn, hs, h1, hx, h2, by omega⟩
theorem least_rng {τ : Nat → Int} (r : RG τ) {bt : Bool} {s y : Int} (hs : 0 ≤ s ∧ s < τ 0) (hy : 0 ≤ y ∧ y ≤ 3000) (h2 : bt = true → y ≤ 60) (most : Bool) : 0 ≤ leastS τ bt s y most ∧ leastS τ bt s y most ≤ 99 := by
  have hn := r.n
  have hl := r.late s.toNat (by omega)
  rw [show 16 + s.toNat = (16 + s).toNat by omega] at hl
  have key : ∀ (n i : Nat) (b : Int), (i : Int) + n ≤ τ 0 → (-1 ≤ b ∧ b ≤ 99) → -1 ≤ itr (leastF τ bt s y most) n i b ∧ itr (leastF τ bt s y most) n i b ≤ 99 := by
    intro n
    induction n with
    | zero => intro i b _ hb; exact hb
    | succ n ih =>
      intro i b hi hb
      rw [itr]
      refine ih (i + 1) _ (by omega) ?_
      have h3 := seen_rng r (bt := bt) (s := (i : Int)) (y := y - 1 - τ (16 + s).toNat) (by omega) (by omega) (fun q => by have := h2 q; omega)
      unfold leastF
      repeat' split
      all_goals omega
  have k1 := key (τ 0).toNat 0 (-1) (by omega) (by omega)
  have h3 := seen_rng r (bt := bt) (s := s) (y := y - 1) (by omega) (by omega) (fun q => by have := h2 q; omega)
  unfold leastS
  split
  · exact h3
  · omega
theorem worth0 (τ : Nat → Int) (bt : Bool) (s x : Int) : worthS τ bt s x 100 = seenS τ bt s (x - 1) := rfl
theorem worth1 (τ : Nat → Int) (bt : Bool) (s x : Int) : worthS τ bt s x 101 = leastS τ bt s x false := rfl
/-- a move's wish -/
theorem mv_run {g : AH} {f : Nat} {τ σ : Nat → Int} {bt : Bool} {s x : Int} (hf1 : hK g f = 100) (hf2 : hL g f = 9) (hf3 : ∀ k : Nat, k < 9 → hI g f k = iI (worthS τ bt s x (100 + k))) {mv p : Nat} (hM : MoveE σ g mv p) :
    F_mv g mv f = some (iI (if σ p = 0 then seenS τ bt s (x - 1) + σ (p + 1) else if σ p = 1 then seenS τ bt s (x - 1) - σ (p + 1) else if σ p = 2 then σ (p + 1) else if σ p = 3 then leastS τ bt s x false - σ (p + 1) else if σ p = 4 then leastS τ bt s x false else seenS τ bt s (x - 1))) := by
  have e0 := hf3 0 (by omega)
  have e1 := hf3 1 (by omega)
  simp only [Int.ofNat_eq_natCast, Int.natCast_zero, Int.add_zero, worth0] at e0
  rw [show (100 : Int) + ((1 : Nat) : Int) = 101 by omega, worth1] at e1
  unfold F_mv F_X16_to F_X17_to F_X18_to F_X19_to F_X20_to
  rcases hM with ⟨p0, k, -, -, v⟩ | ⟨p0, k, -, -, v⟩ | ⟨p0, k, -, -, v⟩ | ⟨p0, k, -, -, v⟩ | ⟨p0, k, v⟩ | ⟨p0, k⟩
  · simp (disch := omega) only [i_lit, i_neg, i_add, i_sub, i_mul, i_ofNat, i_div, i_le, i_lt, i_eq, i_ix, i_inb, i_max, i_min, e_rem, j_lit, j_i, Int.reduceToNat, Int.reduceAdd, Int.reduceSub, Int.reduceMul, Int.reduceNeg, Int.reduceLT, Int.reduceLE, Int.reduceEq, gd_t, gd_T, bd_t, lh_t, on_s, on_n, ec_l, ec_r, if_true, if_false, true_and, and_true, false_and, and_false, true_or, or_true, false_or, or_false, Bool.false_eq_true, b2i_0, b2i_1, bl_0, bl_1, bl_b2, not_true_eq_false, not_false_eq_true, k, p0, v, hf1, hf2, e0, e1]
  · simp (disch := omega) only [i_lit, i_neg, i_add, i_sub, i_mul, i_ofNat, i_div, i_le, i_lt, i_eq, i_ix, i_inb, i_max, i_min, e_rem, j_lit, j_i, Int.reduceToNat, Int.reduceAdd, Int.reduceSub, Int.reduceMul, Int.reduceNeg, Int.reduceLT, Int.reduceLE, Int.reduceEq, gd_t, gd_T, bd_t, lh_t, on_s, on_n, ec_l, ec_r, if_true, if_false, true_and, and_true, false_and, and_false, true_or, or_true, false_or, or_false, Bool.false_eq_true, b2i_0, b2i_1, bl_0, bl_1, bl_b2, not_true_eq_false, not_false_eq_true, k, p0, v, hf1, hf2, e0, e1]
    rfl
  · simp (disch := omega) only [i_lit, i_neg, i_add, i_sub, i_mul, i_ofNat, i_div, i_le, i_lt, i_eq, i_ix, i_inb, i_max, i_min, e_rem, j_lit, j_i, Int.reduceToNat, Int.reduceAdd, Int.reduceSub, Int.reduceMul, Int.reduceNeg, Int.reduceLT, Int.reduceLE, Int.reduceEq, gd_t, gd_T, bd_t, lh_t, on_s, on_n, ec_l, ec_r, if_true, if_false, true_and, and_true, false_and, and_false, true_or, or_true, false_or, or_false, Bool.false_eq_true, b2i_0, b2i_1, bl_0, bl_1, bl_b2, not_true_eq_false, not_false_eq_true, k, p0, v, hf1, hf2, e0, e1]
    rfl
  · simp (disch := omega) only [i_lit, i_neg, i_add, i_sub, i_mul, i_ofNat, i_div, i_le, i_lt, i_eq, i_ix, i_inb, i_max, i_min, e_rem, j_lit, j_i, Int.reduceToNat, Int.reduceAdd, Int.reduceSub, Int.reduceMul, Int.reduceNeg, Int.reduceLT, Int.reduceLE, Int.reduceEq, gd_t, gd_T, bd_t, lh_t, on_s, on_n, ec_l, ec_r, if_true, if_false, true_and, and_true, false_and, and_false, true_or, or_true, false_or, or_false, Bool.false_eq_true, b2i_0, b2i_1, bl_0, bl_1, bl_b2, not_true_eq_false, not_false_eq_true, k, p0, v, hf1, hf2, e0, e1]
    rfl
  · simp (disch := omega) only [i_lit, i_neg, i_add, i_sub, i_mul, i_ofNat, i_div, i_le, i_lt, i_eq, i_ix, i_inb, i_max, i_min, e_rem, j_lit, j_i, Int.reduceToNat, Int.reduceAdd, Int.reduceSub, Int.reduceMul, Int.reduceNeg, Int.reduceLT, Int.reduceLE, Int.reduceEq, gd_t, gd_T, bd_t, lh_t, on_s, on_n, ec_l, ec_r, if_true, if_false, true_and, and_true, false_and, and_false, true_or, or_true, false_or, or_false, Bool.false_eq_true, b2i_0, b2i_1, bl_0, bl_1, bl_b2, not_true_eq_false, not_false_eq_true, k, p0, v, hf1, hf2, e0, e1]
    simp
  · simp (disch := omega) only [i_lit, i_neg, i_add, i_sub, i_mul, i_ofNat, i_div, i_le, i_lt, i_eq, i_ix, i_inb, i_max, i_min, e_rem, j_lit, j_i, Int.reduceToNat, Int.reduceAdd, Int.reduceSub, Int.reduceMul, Int.reduceNeg, Int.reduceLT, Int.reduceLE, Int.reduceEq, gd_t, gd_T, bd_t, lh_t, on_s, on_n, ec_l, ec_r, if_true, if_false, true_and, and_true, false_and, and_false, true_or, or_true, false_or, or_false, Bool.false_eq_true, b2i_0, b2i_1, bl_0, bl_1, bl_b2, not_true_eq_false, not_false_eq_true, k, p0, hf1, hf2, e0, e1]
    rfl
