/-! PURE O: what a station's price is made, both sides -/
set_option maxRecDepth 100000
def capS (τ : Nat → Int) (w own : Int) : Int := if τ 122 = -1 then w else min w (own + τ 122)
def bycS (τ : Nat → Int) (w own cost : Int) : Int := if τ 124 = 1 then (if w = own then w else max w cost) else w
def bndS (τ : Nat → Int) (w own cost : Int) : Int := max 0 (min 99 (bycS τ (capS τ w own) own cost))
def hasP (k y : Int) : Prop := ((iI k) >>> ((iI (y % 24)) &&& iI 31)) &&& iI 1 = iI 1
def letP (τ : Nat → Int) (y since : Int) : Prop := (τ 121 = 0 ∨ hasP (τ 121) y) ∧ (τ 120 = -1 ∨ τ 120 ≤ since)
theorem bounded_eq {o : Nat → Nat} {t : Nat} {h : AH} {x : Nat} {τ : Nat → Int} {υ : Nat → Int64} {e : Nat → Nat} {el : Nat → Nat → Nat} {lw : Nat} (c : CrP o t h x τ υ e el lw) {w own cost : Int} (h1 : -300 ≤ w ∧ w ≤ 300) (h2 : 0 ≤ own ∧ own ≤ 99) (h3 : 0 ≤ cost ∧ cost ≤ 99) : F_X3_bounded h lw (iI w) (iI own) (iI cost) = some (iI (bndS τ w own cost)) := by
  have r1 := c.rg.cap
  have r2 := c.rg.byc
  unfold F_X3_bounded B_X3_bounded_22 B_X3_bounded_45 bndS bycS capS
  by_cases q1 : τ 122 = -1
  · rcases r2 with q2 | q2
    · simp (disch := omega) only [i_lit, i_neg, i_add, i_sub, i_mul, i_ofNat, i_div, i_le, i_lt, i_eq, i_ix, i_inb, i_max, i_min, e_rem, j_lit, j_i, Int.reduceToNat, Int.reduceAdd, Int.reduceSub, Int.reduceMul, Int.reduceNeg, Int.reduceLT, Int.reduceLE, Int.reduceEq, gd_t, gd_T, bd_t, lh_t, on_s, on_n, ec_l, ec_r, if_true, if_false, true_and, and_true, false_and, and_false, true_or, or_true, false_or, or_false, Bool.false_eq_true, b2i_0, b2i_1, bl_0, bl_1, bl_b2, not_true_eq_false, not_false_eq_true, c.kL, c.L2, c.L4, q1, q2]
      rw [show min 99 (max 0 w) = max 0 (min 99 w) by omega]
    · by_cases q3 : w = own
      · simp (disch := omega) only [i_lit, i_neg, i_add, i_sub, i_mul, i_ofNat, i_div, i_le, i_lt, i_eq, i_ix, i_inb, i_max, i_min, e_rem, j_lit, j_i, Int.reduceToNat, Int.reduceAdd, Int.reduceSub, Int.reduceMul, Int.reduceNeg, Int.reduceLT, Int.reduceLE, Int.reduceEq, gd_t, gd_T, bd_t, lh_t, on_s, on_n, ec_l, ec_r, if_true, if_false, true_and, and_true, false_and, and_false, true_or, or_true, false_or, or_false, Bool.false_eq_true, b2i_0, b2i_1, bl_0, bl_1, bl_b2, not_true_eq_false, not_false_eq_true, c.kL, c.L2, c.L4, q1, q2, q3]
        rw [show min 99 (max 0 own) = max 0 (min 99 own) by omega]
      · simp (disch := omega) only [i_lit, i_neg, i_add, i_sub, i_mul, i_ofNat, i_div, i_le, i_lt, i_eq, i_ix, i_inb, i_max, i_min, e_rem, j_lit, j_i, Int.reduceToNat, Int.reduceAdd, Int.reduceSub, Int.reduceMul, Int.reduceNeg, Int.reduceLT, Int.reduceLE, Int.reduceEq, gd_t, gd_T, bd_t, lh_t, on_s, on_n, ec_l, ec_r, if_true, if_false, true_and, and_true, false_and, and_false, true_or, or_true, false_or, or_false, Bool.false_eq_true, b2i_0, b2i_1, bl_0, bl_1, bl_b2, not_true_eq_false, not_false_eq_true, c.kL, c.L2, c.L4, q1, q2, q3]
        rw [show min 99 (max 0 (max w cost)) = max 0 (min 99 (max w cost)) by omega]
  · rcases r2 with q2 | q2
    · simp (disch := omega) only [i_lit, i_neg, i_add, i_sub, i_mul, i_ofNat, i_div, i_le, i_lt, i_eq, i_ix, i_inb, i_max, i_min, e_rem, j_lit, j_i, Int.reduceToNat, Int.reduceAdd, Int.reduceSub, Int.reduceMul, Int.reduceNeg, Int.reduceLT, Int.reduceLE, Int.reduceEq, gd_t, gd_T, bd_t, lh_t, on_s, on_n, ec_l, ec_r, if_true, if_false, true_and, and_true, false_and, and_false, true_or, or_true, false_or, or_false, Bool.false_eq_true, b2i_0, b2i_1, bl_0, bl_1, bl_b2, not_true_eq_false, not_false_eq_true, c.kL, c.L2, c.L4, q1, q2]
      rw [show min 99 (max 0 (min w (own + τ 122))) = max 0 (min 99 (min w (own + τ 122))) by omega]
    · by_cases q3 : min w (own + τ 122) = own
      · simp (disch := omega) only [i_lit, i_neg, i_add, i_sub, i_mul, i_ofNat, i_div, i_le, i_lt, i_eq, i_ix, i_inb, i_max, i_min, e_rem, j_lit, j_i, Int.reduceToNat, Int.reduceAdd, Int.reduceSub, Int.reduceMul, Int.reduceNeg, Int.reduceLT, Int.reduceLE, Int.reduceEq, gd_t, gd_T, bd_t, lh_t, on_s, on_n, ec_l, ec_r, if_true, if_false, true_and, and_true, false_and, and_false, true_or, or_true, false_or, or_false, Bool.false_eq_true, b2i_0, b2i_1, bl_0, bl_1, bl_b2, not_true_eq_false, not_false_eq_true, c.kL, c.L2, c.L4, q1, q2, q3]
        rw [show min 99 (max 0 own) = max 0 (min 99 own) by omega]
      · simp (disch := omega) only [i_lit, i_neg, i_add, i_sub, i_mul, i_ofNat, i_div, i_le, i_lt, i_eq, i_ix, i_inb, i_max, i_min, e_rem, j_lit, j_i, Int.reduceToNat, Int.reduceAdd, Int.reduceSub, Int.reduceMul, Int.reduceNeg, Int.reduceLT, Int.reduceLE, Int.reduceEq, gd_t, gd_T, bd_t, lh_t, on_s, on_n, ec_l, ec_r, if_true, if_false, true_and, and_true, false_and, and_false, true_or, or_true, false_or, or_false, Bool.false_eq_true, b2i_0, b2i_1, bl_0, bl_1, bl_b2, not_true_eq_false, not_false_eq_true, c.kL, c.L2, c.L4, q1, q2, q3]
        rw [show min 99 (max 0 (max (min w (own + τ 122)) cost)) = max 0 (min 99 (max (min w (own + τ 122)) cost)) by omega]
theorem lets_eq {o : Nat → Nat} {t : Nat} {h : AH} {x : Nat} {τ : Nat → Int} {υ : Nat → Int64} {e : Nat → Nat} {el : Nat → Nat → Nat} {lw : Nat} (c : CrP o t h x τ υ e el lw) {y since : Int} (hs : 0 ≤ since ∧ since ≤ 99) [Decidable (letP τ y since)] : F_X3_lets h lw (iI (y % 24)) (iI since) = some (b2 (letP τ y since)) := by
  have r1 := c.rg.once
  have r2 := c.rg.at
  unfold F_X3_lets B_X3_lets_18 B_X3_lets_30 B_X3_lets_31 F_X1_has B_X1_has_14
  have hl : ∀ (b : Bool), (b = true ↔ letP τ y since) → (iI (if b then 1 else 0)) = b2 (letP τ y since) := by
    intro b hb
    cases b with
    | false => rw [b2_f (fun q => by cases hb.2 q)]; rfl
    | true => rw [b2_t (hb.1 rfl)]; rfl
  have key : ∀ (b : Bool), (b = true ↔ letP τ y since) → some (iI (if b then 1 else 0)) = some (b2 (letP τ y since)) := fun b hb => by rw [hl b hb]
  by_cases q1 : τ 121 = 0
  · by_cases q2 : τ 120 = -1
    · simp (disch := omega) only [i_lit, i_neg, i_add, i_sub, i_mul, i_ofNat, i_div, i_le, i_lt, i_eq, i_ix, i_inb, i_max, i_min, e_rem, j_lit, j_i, Int.reduceToNat, Int.reduceAdd, Int.reduceSub, Int.reduceMul, Int.reduceNeg, Int.reduceLT, Int.reduceLE, Int.reduceEq, gd_t, gd_T, bd_t, lh_t, on_s, on_n, ec_l, ec_r, if_true, if_false, true_and, and_true, false_and, and_false, true_or, or_true, false_or, or_false, Bool.false_eq_true, b2i_0, b2i_1, bl_0, bl_1, bl_b2, not_true_eq_false, not_false_eq_true, c.kL, c.L0, c.L1, q1, q2]
      rw [if_neg (by omega)]
      exact key true ⟨fun _ => ⟨Or.inl q1, Or.inl q2⟩, fun _ => rfl⟩
    · by_cases q3 : since < τ 120
      · simp (disch := omega) only [i_lit, i_neg, i_add, i_sub, i_mul, i_ofNat, i_div, i_le, i_lt, i_eq, i_ix, i_inb, i_max, i_min, e_rem, j_lit, j_i, Int.reduceToNat, Int.reduceAdd, Int.reduceSub, Int.reduceMul, Int.reduceNeg, Int.reduceLT, Int.reduceLE, Int.reduceEq, gd_t, gd_T, bd_t, lh_t, on_s, on_n, ec_l, ec_r, if_true, if_false, true_and, and_true, false_and, and_false, true_or, or_true, false_or, or_false, Bool.false_eq_true, b2i_0, b2i_1, bl_0, bl_1, bl_b2, not_true_eq_false, not_false_eq_true, c.kL, c.L0, c.L1, q1, q2, q3]
        exact key false ⟨fun q => (by cases q), fun q => by rcases q.2 with w | w <;> omega⟩
      · simp (disch := omega) only [i_lit, i_neg, i_add, i_sub, i_mul, i_ofNat, i_div, i_le, i_lt, i_eq, i_ix, i_inb, i_max, i_min, e_rem, j_lit, j_i, Int.reduceToNat, Int.reduceAdd, Int.reduceSub, Int.reduceMul, Int.reduceNeg, Int.reduceLT, Int.reduceLE, Int.reduceEq, gd_t, gd_T, bd_t, lh_t, on_s, on_n, ec_l, ec_r, if_true, if_false, true_and, and_true, false_and, and_false, true_or, or_true, false_or, or_false, Bool.false_eq_true, b2i_0, b2i_1, bl_0, bl_1, bl_b2, not_true_eq_false, not_false_eq_true, c.kL, c.L0, c.L1, q1, q2, q3]
        exact key true ⟨fun _ => ⟨Or.inl q1, Or.inr (by omega)⟩, fun _ => rfl⟩
  · by_cases qh : hasP (τ 121) y
    · have qh' := qh
      unfold hasP at qh'
      by_cases q2 : τ 120 = -1
      · simp (disch := omega) only [i_lit, i_neg, i_add, i_sub, i_mul, i_ofNat, i_div, i_le, i_lt, i_eq, i_ix, i_inb, i_max, i_min, e_rem, j_lit, j_i, Int.reduceToNat, Int.reduceAdd, Int.reduceSub, Int.reduceMul, Int.reduceNeg, Int.reduceLT, Int.reduceLE, Int.reduceEq, gd_t, gd_T, bd_t, lh_t, on_s, on_n, ec_l, ec_r, if_true, if_false, true_and, and_true, false_and, and_false, true_or, or_true, false_or, or_false, Bool.false_eq_true, b2i_0, b2i_1, bl_0, bl_1, bl_b2, not_true_eq_false, not_false_eq_true, c.kL, c.L0, c.L1, q1, q2, qh']
        rw [if_neg (by omega)]
        exact key true ⟨fun _ => ⟨Or.inr qh, Or.inl q2⟩, fun _ => rfl⟩
      · by_cases q3 : since < τ 120
        · simp (disch := omega) only [i_lit, i_neg, i_add, i_sub, i_mul, i_ofNat, i_div, i_le, i_lt, i_eq, i_ix, i_inb, i_max, i_min, e_rem, j_lit, j_i, Int.reduceToNat, Int.reduceAdd, Int.reduceSub, Int.reduceMul, Int.reduceNeg, Int.reduceLT, Int.reduceLE, Int.reduceEq, gd_t, gd_T, bd_t, lh_t, on_s, on_n, ec_l, ec_r, if_true, if_false, true_and, and_true, false_and, and_false, true_or, or_true, false_or, or_false, Bool.false_eq_true, b2i_0, b2i_1, bl_0, bl_1, bl_b2, not_true_eq_false, not_false_eq_true, c.kL, c.L0, c.L1, q1, q2, q3, qh']
          exact key false ⟨fun q => (by cases q), fun q => by rcases q.2 with w | w <;> omega⟩
        · simp (disch := omega) only [i_lit, i_neg, i_add, i_sub, i_mul, i_ofNat, i_div, i_le, i_lt, i_eq, i_ix, i_inb, i_max, i_min, e_rem, j_lit, j_i, Int.reduceToNat, Int.reduceAdd, Int.reduceSub, Int.reduceMul, Int.reduceNeg, Int.reduceLT, Int.reduceLE, Int.reduceEq, gd_t, gd_T, bd_t, lh_t, on_s, on_n, ec_l, ec_r, if_true, if_false, true_and, and_true, false_and, and_false, true_or, or_true, false_or, or_false, Bool.false_eq_true, b2i_0, b2i_1, bl_0, bl_1, bl_b2, not_true_eq_false, not_false_eq_true, c.kL, c.L0, c.L1, q1, q2, q3, qh']
          exact key true ⟨fun _ => ⟨Or.inr qh, Or.inr (by omega)⟩, fun _ => rfl⟩
    · have qh' := qh
      unfold hasP at qh'
      simp (disch := omega) only [i_lit, i_neg, i_add, i_sub, i_mul, i_ofNat, i_div, i_le, i_lt, i_eq, i_ix, i_inb, i_max, i_min, e_rem, j_lit, j_i, Int.reduceToNat, Int.reduceAdd, Int.reduceSub, Int.reduceMul, Int.reduceNeg, Int.reduceLT, Int.reduceLE, Int.reduceEq, gd_t, gd_T, bd_t, lh_t, on_s, on_n, ec_l, ec_r, if_true, if_false, true_and, and_true, false_and, and_false, true_or, or_true, false_or, or_false, Bool.false_eq_true, b2i_0, b2i_1, bl_0, bl_1, bl_b2, not_true_eq_false, not_false_eq_true, c.kL, c.L0, c.L1, q1, qh']
      exact key false ⟨fun q => (by cases q), fun q => by rcases q.1 with w | w; exact absurd w q1; exact absurd w qh⟩
/-- the reference's end of 'makes' -/
theorem makes_end {hT : AH} {m : Nat} {τ : Nat → Int} (tn : TN hT m τ) {bt : Bool} (hb : hI hT m 23 = b2 (bt = true)) (rg : RG τ) {s y w own : Int} (r : SR τ bt s y) (h1 : -300 ≤ w ∧ w ≤ 300) (h2 : 0 ≤ own ∧ own ≤ 99) (h3 : 0 ≤ τ (8 + s).toNat ∧ τ (8 + s).toNat ≤ 99) (hsi : 0 ≤ sinceS τ bt s y ∧ sinceS τ bt s y ≤ 99) [Decidable (letP τ y (sinceS τ bt s y))] :
    B_X8_makes_44 hT m (iI s) (iI y) (iI own) (iI (capS τ w own)) = some (iI (if bndS τ w own (τ (8 + s).toNat) = own then own else if letP τ y (sinceS τ bt s y) then bndS τ w own (τ (8 + s).toNat) else own), hT) := by
  have ts := tn.s
  have ti := tn.i
  have e1 := sinceAt_eq tn hb r
  have hc : -301 ≤ capS τ w own ∧ capS τ w own ≤ 300 := by
    have := rg.cap
    unfold capS
    split <;> omega
  obtain ⟨hN, hs, hl, hx, hx2, hch⟩ := r
  have r1 := rg.once
  have r2 := rg.at
  have r3 := rg.byc
  generalize hK : capS τ w own = K at hc ⊢
  have hbn : bndS τ w own (τ (8 + s).toNat) = max 0 (min 99 (bycS τ K own (τ (8 + s).toNat))) := by unfold bndS; rw [hK]
  have hby : -301 ≤ bycS τ K own (τ (8 + s).toNat) ∧ bycS τ K own (τ (8 + s).toNat) ≤ 300 := by
    unfold bycS
    repeat' split
    all_goals omega
  have tail : ∀ P : Int, (-301 ≤ P ∧ P ≤ 300) → B_X8_makes_77 hT m (iI s) (iI y) (iI own) (iI P) = some (iI (if max 0 (min 99 P) = own then own else if letP τ y (sinceS τ bt s y) then max 0 (min 99 P) else own), hT) := by
    intro P hP
    unfold B_X8_makes_77 B_X8_makes_126 B_X8_makes_153 B_X8_makes_157 B_X8_makes_158 B_X8_makes_171
    by_cases q0 : max 0 (min 99 P) = own
    · simp (disch := omega) only [i_lit, i_neg, i_add, i_sub, i_mul, i_ofNat, i_div, i_le, i_lt, i_eq, i_ix, i_inb, i_max, i_min, e_rem, j_lit, j_i, Int.reduceToNat, Int.reduceAdd, Int.reduceSub, Int.reduceMul, Int.reduceNeg, Int.reduceLT, Int.reduceLE, Int.reduceEq, gd_t, gd_T, bd_t, lh_t, on_s, on_n, ec_l, ec_r, if_true, if_false, true_and, and_true, false_and, and_false, true_or, or_true, false_or, or_false, Bool.false_eq_true, b2i_0, b2i_1, bl_0, bl_1, bl_b2, not_true_eq_false, not_false_eq_true, q0]
    · by_cases q1 : τ 121 = 0
      · by_cases q2 : τ 120 = -1
        · have hl : letP τ y (sinceS τ bt s y) := ⟨Or.inl q1, Or.inl q2⟩
          simp (disch := omega) only [i_lit, i_neg, i_add, i_sub, i_mul, i_ofNat, i_div, i_le, i_lt, i_eq, i_ix, i_inb, i_max, i_min, e_rem, j_lit, j_i, Int.reduceToNat, Int.reduceAdd, Int.reduceSub, Int.reduceMul, Int.reduceNeg, Int.reduceLT, Int.reduceLE, Int.reduceEq, gd_t, gd_T, bd_t, lh_t, on_s, on_n, ec_l, ec_r, if_true, if_false, true_and, and_true, false_and, and_false, true_or, or_true, false_or, or_false, Bool.false_eq_true, b2i_0, b2i_1, bl_0, bl_1, bl_b2, not_true_eq_false, not_false_eq_true, ts.k, ts.r1, ts.k1, ts.l1, ts.r2, ts.k2, ts.l2, ts.r3, ts.k3, ts.l3, ts.r4, ts.k4, ts.l4, ts.r5, ts.k5, ts.l5, ts.r6, ts.k6, ts.l6, ts.r7, ts.k7, ts.l7, ts.r8, ts.k8, ts.l8, ts.r9, ts.k9, ts.l9, ts.r10, ts.k10, ts.l10, ts.r11, ts.k11, ts.l11, ts.r12, ts.k12, ts.l12, ts.r13, ts.k13, ts.l13, ts.r14, ts.k14, ts.l14, ts.r15, ts.k15, ts.l15, ts.r16, ts.k16, ts.l16, ts.r17, ts.k17, ts.l17, ts.r18, ts.k18, ts.l18, ts.r19, ts.k19, ts.l19, ts.r20, ts.k20, ts.l20, ti, q0, q1, q2, hl]
        · by_cases q3 : sinceS τ bt s y < τ 120
          · have hl : ¬ letP τ y (sinceS τ bt s y) := fun q => by rcases q.2 with w | w <;> omega
            simp (disch := omega) only [i_lit, i_neg, i_add, i_sub, i_mul, i_ofNat, i_div, i_le, i_lt, i_eq, i_ix, i_inb, i_max, i_min, e_rem, j_lit, j_i, Int.reduceToNat, Int.reduceAdd, Int.reduceSub, Int.reduceMul, Int.reduceNeg, Int.reduceLT, Int.reduceLE, Int.reduceEq, gd_t, gd_T, bd_t, lh_t, on_s, on_n, ec_l, ec_r, if_true, if_false, true_and, and_true, false_and, and_false, true_or, or_true, false_or, or_false, Bool.false_eq_true, b2i_0, b2i_1, bl_0, bl_1, bl_b2, not_true_eq_false, not_false_eq_true, ts.k, ts.r1, ts.k1, ts.l1, ts.r2, ts.k2, ts.l2, ts.r3, ts.k3, ts.l3, ts.r4, ts.k4, ts.l4, ts.r5, ts.k5, ts.l5, ts.r6, ts.k6, ts.l6, ts.r7, ts.k7, ts.l7, ts.r8, ts.k8, ts.l8, ts.r9, ts.k9, ts.l9, ts.r10, ts.k10, ts.l10, ts.r11, ts.k11, ts.l11, ts.r12, ts.k12, ts.l12, ts.r13, ts.k13, ts.l13, ts.r14, ts.k14, ts.l14, ts.r15, ts.k15, ts.l15, ts.r16, ts.k16, ts.l16, ts.r17, ts.k17, ts.l17, ts.r18, ts.k18, ts.l18, ts.r19, ts.k19, ts.l19, ts.r20, ts.k20, ts.l20, ti, q0, q1, q2, e1, q3, hl]
          · have hl : letP τ y (sinceS τ bt s y) := ⟨Or.inl q1, Or.inr (by omega)⟩
            simp (disch := omega) only [i_lit, i_neg, i_add, i_sub, i_mul, i_ofNat, i_div, i_le, i_lt, i_eq, i_ix, i_inb, i_max, i_min, e_rem, j_lit, j_i, Int.reduceToNat, Int.reduceAdd, Int.reduceSub, Int.reduceMul, Int.reduceNeg, Int.reduceLT, Int.reduceLE, Int.reduceEq, gd_t, gd_T, bd_t, lh_t, on_s, on_n, ec_l, ec_r, if_true, if_false, true_and, and_true, false_and, and_false, true_or, or_true, false_or, or_false, Bool.false_eq_true, b2i_0, b2i_1, bl_0, bl_1, bl_b2, not_true_eq_false, not_false_eq_true, ts.k, ts.r1, ts.k1, ts.l1, ts.r2, ts.k2, ts.l2, ts.r3, ts.k3, ts.l3, ts.r4, ts.k4, ts.l4, ts.r5, ts.k5, ts.l5, ts.r6, ts.k6, ts.l6, ts.r7, ts.k7, ts.l7, ts.r8, ts.k8, ts.l8, ts.r9, ts.k9, ts.l9, ts.r10, ts.k10, ts.l10, ts.r11, ts.k11, ts.l11, ts.r12, ts.k12, ts.l12, ts.r13, ts.k13, ts.l13, ts.r14, ts.k14, ts.l14, ts.r15, ts.k15, ts.l15, ts.r16, ts.k16, ts.l16, ts.r17, ts.k17, ts.l17, ts.r18, ts.k18, ts.l18, ts.r19, ts.k19, ts.l19, ts.r20, ts.k20, ts.l20, ti, q0, q1, q2, e1, q3, hl]
      · by_cases qh : hasP (τ 121) y
        · have qh' := qh
          unfold hasP at qh'
          by_cases q2 : τ 120 = -1
          · have hl : letP τ y (sinceS τ bt s y) := ⟨Or.inr qh, Or.inl q2⟩
            simp (disch := omega) only [i_lit, i_neg, i_add, i_sub, i_mul, i_ofNat, i_div, i_le, i_lt, i_eq, i_ix, i_inb, i_max, i_min, e_rem, j_lit, j_i, Int.reduceToNat, Int.reduceAdd, Int.reduceSub, Int.reduceMul, Int.reduceNeg, Int.reduceLT, Int.reduceLE, Int.reduceEq, gd_t, gd_T, bd_t, lh_t, on_s, on_n, ec_l, ec_r, if_true, if_false, true_and, and_true, false_and, and_false, true_or, or_true, false_or, or_false, Bool.false_eq_true, b2i_0, b2i_1, bl_0, bl_1, bl_b2, not_true_eq_false, not_false_eq_true, ts.k, ts.r1, ts.k1, ts.l1, ts.r2, ts.k2, ts.l2, ts.r3, ts.k3, ts.l3, ts.r4, ts.k4, ts.l4, ts.r5, ts.k5, ts.l5, ts.r6, ts.k6, ts.l6, ts.r7, ts.k7, ts.l7, ts.r8, ts.k8, ts.l8, ts.r9, ts.k9, ts.l9, ts.r10, ts.k10, ts.l10, ts.r11, ts.k11, ts.l11, ts.r12, ts.k12, ts.l12, ts.r13, ts.k13, ts.l13, ts.r14, ts.k14, ts.l14, ts.r15, ts.k15, ts.l15, ts.r16, ts.k16, ts.l16, ts.r17, ts.k17, ts.l17, ts.r18, ts.k18, ts.l18, ts.r19, ts.k19, ts.l19, ts.r20, ts.k20, ts.l20, ti, q0, q1, q2, qh', hl]
          · by_cases q3 : sinceS τ bt s y < τ 120
            · have hl : ¬ letP τ y (sinceS τ bt s y) := fun q => by rcases q.2 with w | w <;> omega
              simp (disch := omega) only [i_lit, i_neg, i_add, i_sub, i_mul, i_ofNat, i_div, i_le, i_lt, i_eq, i_ix, i_inb, i_max, i_min, e_rem, j_lit, j_i, Int.reduceToNat, Int.reduceAdd, Int.reduceSub, Int.reduceMul, Int.reduceNeg, Int.reduceLT, Int.reduceLE, Int.reduceEq, gd_t, gd_T, bd_t, lh_t, on_s, on_n, ec_l, ec_r, if_true, if_false, true_and, and_true, false_and, and_false, true_or, or_true, false_or, or_false, Bool.false_eq_true, b2i_0, b2i_1, bl_0, bl_1, bl_b2, not_true_eq_false, not_false_eq_true, ts.k, ts.r1, ts.k1, ts.l1, ts.r2, ts.k2, ts.l2, ts.r3, ts.k3, ts.l3, ts.r4, ts.k4, ts.l4, ts.r5, ts.k5, ts.l5, ts.r6, ts.k6, ts.l6, ts.r7, ts.k7, ts.l7, ts.r8, ts.k8, ts.l8, ts.r9, ts.k9, ts.l9, ts.r10, ts.k10, ts.l10, ts.r11, ts.k11, ts.l11, ts.r12, ts.k12, ts.l12, ts.r13, ts.k13, ts.l13, ts.r14, ts.k14, ts.l14, ts.r15, ts.k15, ts.l15, ts.r16, ts.k16, ts.l16, ts.r17, ts.k17, ts.l17, ts.r18, ts.k18, ts.l18, ts.r19, ts.k19, ts.l19, ts.r20, ts.k20, ts.l20, ti, q0, q1, q2, e1, q3, qh', hl]
            · have hl : letP τ y (sinceS τ bt s y) := ⟨Or.inr qh, Or.inr (by omega)⟩
              simp (disch := omega) only [i_lit, i_neg, i_add, i_sub, i_mul, i_ofNat, i_div, i_le, i_lt, i_eq, i_ix, i_inb, i_max, i_min, e_rem, j_lit, j_i, Int.reduceToNat, Int.reduceAdd, Int.reduceSub, Int.reduceMul, Int.reduceNeg, Int.reduceLT, Int.reduceLE, Int.reduceEq, gd_t, gd_T, bd_t, lh_t, on_s, on_n, ec_l, ec_r, if_true, if_false, true_and, and_true, false_and, and_false, true_or, or_true, false_or, or_false, Bool.false_eq_true, b2i_0, b2i_1, bl_0, bl_1, bl_b2, not_true_eq_false, not_false_eq_true, ts.k, ts.r1, ts.k1, ts.l1, ts.r2, ts.k2, ts.l2, ts.r3, ts.k3, ts.l3, ts.r4, ts.k4, ts.l4, ts.r5, ts.k5, ts.l5, ts.r6, ts.k6, ts.l6, ts.r7, ts.k7, ts.l7, ts.r8, ts.k8, ts.l8, ts.r9, ts.k9, ts.l9, ts.r10, ts.k10, ts.l10, ts.r11, ts.k11, ts.l11, ts.r12, ts.k12, ts.l12, ts.r13, ts.k13, ts.l13, ts.r14, ts.k14, ts.l14, ts.r15, ts.k15, ts.l15, ts.r16, ts.k16, ts.l16, ts.r17, ts.k17, ts.l17, ts.r18, ts.k18, ts.l18, ts.r19, ts.k19, ts.l19, ts.r20, ts.k20, ts.l20, ti, q0, q1, q2, e1, q3, qh', hl]
        · have qh' := qh
          unfold hasP at qh'
          have hl : ¬ letP τ y (sinceS τ bt s y) := fun q => by rcases q.1 with w | w; exact q1 w; exact qh w
          simp (disch := omega) only [i_lit, i_neg, i_add, i_sub, i_mul, i_ofNat, i_div, i_le, i_lt, i_eq, i_ix, i_inb, i_max, i_min, e_rem, j_lit, j_i, Int.reduceToNat, Int.reduceAdd, Int.reduceSub, Int.reduceMul, Int.reduceNeg, Int.reduceLT, Int.reduceLE, Int.reduceEq, gd_t, gd_T, bd_t, lh_t, on_s, on_n, ec_l, ec_r, if_true, if_false, true_and, and_true, false_and, and_false, true_or, or_true, false_or, or_false, Bool.false_eq_true, b2i_0, b2i_1, bl_0, bl_1, bl_b2, not_true_eq_false, not_false_eq_true, ts.k, ts.r1, ts.k1, ts.l1, ts.r2, ts.k2, ts.l2, ts.r3, ts.k3, ts.l3, ts.r4, ts.k4, ts.l4, ts.r5, ts.k5, ts.l5, ts.r6, ts.k6, ts.l6, ts.r7, ts.k7, ts.l7, ts.r8, ts.k8, ts.l8, ts.r9, ts.k9, ts.l9, ts.r10, ts.k10, ts.l10, ts.r11, ts.k11, ts.l11, ts.r12, ts.k12, ts.l12, ts.r13, ts.k13, ts.l13, ts.r14, ts.k14, ts.l14, ts.r15, ts.k15, ts.l15, ts.r16, ts.k16, ts.l16, ts.r17, ts.k17, ts.l17, ts.r18, ts.k18, ts.l18, ts.r19, ts.k19, ts.l19, ts.r20, ts.k20, ts.l20, ti, q0, q1, qh', hl]
  rw [hbn]
  have tl := tail _ hby
  unfold bycS at tl ⊢
  unfold B_X8_makes_44
  rcases r3 with q2 | q2
  · simp (disch := omega) only [i_lit, i_neg, i_add, i_sub, i_mul, i_ofNat, i_div, i_le, i_lt, i_eq, i_ix, i_inb, i_max, i_min, e_rem, j_lit, j_i, Int.reduceToNat, Int.reduceAdd, Int.reduceSub, Int.reduceMul, Int.reduceNeg, Int.reduceLT, Int.reduceLE, Int.reduceEq, gd_t, gd_T, bd_t, lh_t, on_s, on_n, ec_l, ec_r, if_true, if_false, true_and, and_true, false_and, and_false, true_or, or_true, false_or, or_false, Bool.false_eq_true, b2i_0, b2i_1, bl_0, bl_1, bl_b2, not_true_eq_false, not_false_eq_true, ts.k, ts.r1, ts.k1, ts.l1, ts.r2, ts.k2, ts.l2, ts.r3, ts.k3, ts.l3, ts.r4, ts.k4, ts.l4, ts.r5, ts.k5, ts.l5, ts.r6, ts.k6, ts.l6, ts.r7, ts.k7, ts.l7, ts.r8, ts.k8, ts.l8, ts.r9, ts.k9, ts.l9, ts.r10, ts.k10, ts.l10, ts.r11, ts.k11, ts.l11, ts.r12, ts.k12, ts.l12, ts.r13, ts.k13, ts.l13, ts.r14, ts.k14, ts.l14, ts.r15, ts.k15, ts.l15, ts.r16, ts.k16, ts.l16, ts.r17, ts.k17, ts.l17, ts.r18, ts.k18, ts.l18, ts.r19, ts.k19, ts.l19, ts.r20, ts.k20, ts.l20, ti, q2] at tl ⊢
    exact tl
  · by_cases q3 : K = own
    · simp (disch := omega) only [i_lit, i_neg, i_add, i_sub, i_mul, i_ofNat, i_div, i_le, i_lt, i_eq, i_ix, i_inb, i_max, i_min, e_rem, j_lit, j_i, Int.reduceToNat, Int.reduceAdd, Int.reduceSub, Int.reduceMul, Int.reduceNeg, Int.reduceLT, Int.reduceLE, Int.reduceEq, gd_t, gd_T, bd_t, lh_t, on_s, on_n, ec_l, ec_r, if_true, if_false, true_and, and_true, false_and, and_false, true_or, or_true, false_or, or_false, Bool.false_eq_true, b2i_0, b2i_1, bl_0, bl_1, bl_b2, not_true_eq_false, not_false_eq_true, ts.k, ts.r1, ts.k1, ts.l1, ts.r2, ts.k2, ts.l2, ts.r3, ts.k3, ts.l3, ts.r4, ts.k4, ts.l4, ts.r5, ts.k5, ts.l5, ts.r6, ts.k6, ts.l6, ts.r7, ts.k7, ts.l7, ts.r8, ts.k8, ts.l8, ts.r9, ts.k9, ts.l9, ts.r10, ts.k10, ts.l10, ts.r11, ts.k11, ts.l11, ts.r12, ts.k12, ts.l12, ts.r13, ts.k13, ts.l13, ts.r14, ts.k14, ts.l14, ts.r15, ts.k15, ts.l15, ts.r16, ts.k16, ts.l16, ts.r17, ts.k17, ts.l17, ts.r18, ts.k18, ts.l18, ts.r19, ts.k19, ts.l19, ts.r20, ts.k20, ts.l20, ti, q2, q3] at tl ⊢
      exact tl
    · simp (disch := omega) only [i_lit, i_neg, i_add, i_sub, i_mul, i_ofNat, i_div, i_le, i_lt, i_eq, i_ix, i_inb, i_max, i_min, e_rem, j_lit, j_i, Int.reduceToNat, Int.reduceAdd, Int.reduceSub, Int.reduceMul, Int.reduceNeg, Int.reduceLT, Int.reduceLE, Int.reduceEq, gd_t, gd_T, bd_t, lh_t, on_s, on_n, ec_l, ec_r, if_true, if_false, true_and, and_true, false_and, and_false, true_or, or_true, false_or, or_false, Bool.false_eq_true, b2i_0, b2i_1, bl_0, bl_1, bl_b2, not_true_eq_false, not_false_eq_true, ts.k, ts.r1, ts.k1, ts.l1, ts.r2, ts.k2, ts.l2, ts.r3, ts.k3, ts.l3, ts.r4, ts.k4, ts.l4, ts.r5, ts.k5, ts.l5, ts.r6, ts.k6, ts.l6, ts.r7, ts.k7, ts.l7, ts.r8, ts.k8, ts.l8, ts.r9, ts.k9, ts.l9, ts.r10, ts.k10, ts.l10, ts.r11, ts.k11, ts.l11, ts.r12, ts.k12, ts.l12, ts.r13, ts.k13, ts.l13, ts.r14, ts.k14, ts.l14, ts.r15, ts.k15, ts.l15, ts.r16, ts.k16, ts.l16, ts.r17, ts.k17, ts.l17, ts.r18, ts.k18, ts.l18, ts.r19, ts.k19, ts.l19, ts.r20, ts.k20, ts.l20, ti, q2, q3] at tl ⊢
      exact tl
theorem sets_k4 {o : Nat → Nat} {t : Nat} {h : AH} {x : Nat} {τ : Nat → Int} {υ : Nat → Int64} {e : Nat → Nat} {el : Nat → Nat → Nat} {lw : Nat} (c : CrP o t h x τ υ e el lw) {z : Nat} (cs : CS h z) (hz : hR h z 0 = some x) (ow : OW o z) (ht1 : t ≠ 1) {s y : Int} (hs : 0 ≤ s ∧ s < τ 0) (hy : 0 ≤ y ∧ y ≤ 3000) (hsi : 0 ≤ sinceS τ false s y ∧ sinceS τ false s y ≤ 99) :
    ∃ v : Int, (0 ≤ v ∧ v ≤ 99) ∧ Ok1 (F_X1_sets_k4 h z (z + 271) (iI s) (iI y)) (fun r => r.1 = iI v ∧ tf (fun a => a = z + 273) h r.2) ∧
      ∀ (hT : AH) (m : Nat), TN hT m τ → hI hT m 23 = b2 (false = true) → Ok1 (F_X8_makes hT m (iI s) (iI y)) (fun r => r.1 = iI v ∧ tf (fun a => a = m + 9) hT r.2) := by
  have hn := c.rg.n
  have ht := c.rg.t
  obtain ⟨k1, k2⟩ := stat_at c hs
  obtain ⟨h1, f1, f2, f3⟩ := looks_k4 c cs hz ow ht1 hs hy
  have c1 := c.tf f2 (fun a q => by subst q; exact ⟨ow _ (by omega), by rw [cs.k273]; unfold imK; omega, by rw [cs.k273]; omega⟩) ht1
  have cs1 := cs.tf f2
  have hz1 : hR h1 z 0 = some x := by rw [f2.R]; exact hz
  obtain ⟨j1, j2⟩ := stat_at c1 hs
  obtain ⟨w, w1, w2, w3⟩ := wish_k4 c1 cs1 hz1 hs hy f3
  have sr : SR τ false s y := SR.of c.rg hs (by omega) (by intro q; cases q)
  have own := seen_rng c.rg (bt := false) (s := s) (y := y - 1) (by omega) (by omega) (by intro q; cases q)
  have r8 := c.rg.cost s.toNat (by omega)
  have i0 := j2.i0
  rw [show 8 + s.toNat = (8 + s).toNat by omega] at r8 i0
  have v0 := f3 0 (by omega)
  have v4 := f3 4 (by omega)
  have v6 := f3 6 (by omega)
  simp only [Int.ofNat_eq_natCast, Int.natCast_zero, Int.add_zero, worth0] at v0
  rw [show worthS τ false s y (100 + ((4 : Nat) : Int)) = y % 24 from rfl] at v4
  rw [show worthS τ false s y (100 + ((6 : Nat) : Int)) = sinceS τ false s y from rfl] at v6
  have hdec : Decidable (letP τ y (sinceS τ false s y)) := Classical.propDecidable _
  have hbn : 0 ≤ bndS τ w (seenS τ false s (y - 1)) (τ (8 + s).toNat) ∧ bndS τ w (seenS τ false s (y - 1)) (τ (8 + s).toNat) ≤ 99 := by unfold bndS; omega
  refine ⟨if bndS τ w (seenS τ false s (y - 1)) (τ (8 + s).toNat) = seenS τ false s (y - 1) then seenS τ false s (y - 1) else if letP τ y (sinceS τ false s y) then bndS τ w (seenS τ false s (y - 1)) (τ (8 + s).toNat) else seenS τ false s (y - 1), ?_, ?_, ?_⟩
  · repeat' split
    all_goals omega
  · unfold F_X1_sets_k4
    simp (disch := omega) only [i_lit, i_neg, i_add, i_sub, i_mul, i_ofNat, i_div, i_le, i_lt, i_eq, i_ix, i_inb, i_max, i_min, e_rem, j_lit, j_i, Int.reduceToNat, Int.reduceAdd, Int.reduceSub, Int.reduceMul, Int.reduceNeg, Int.reduceLT, Int.reduceLE, Int.reduceEq, gd_t, gd_T, bd_t, lh_t, on_s, on_n, ec_l, ec_r, if_true, if_false, true_and, and_true, false_and, and_false, true_or, or_true, false_or, or_false, Bool.false_eq_true, b2i_0, b2i_1, bl_0, bl_1, bl_b2, not_true_eq_false, not_false_eq_true, cs.k, hz, c.k, c.r0, c.a0.k, k1, k2.k, f1, cs1.k, cs1.r273, cs1.k273, cs1.l273, v0]
    refine w2 _ ?_
    unfold B_X1_sets_k4_111 B_X1_sets_k4_165 B_X1_sets_k4_172
    have e1 := bounded_eq c1 w1 own r8
    have e2 := lets_eq c1 (y := y) hsi
    by_cases q1 : bndS τ w (seenS τ false s (y - 1)) (τ (8 + s).toNat) = seenS τ false s (y - 1)
    · simp (disch := omega) only [i_lit, i_neg, i_add, i_sub, i_mul, i_ofNat, i_div, i_le, i_lt, i_eq, i_ix, i_inb, i_max, i_min, e_rem, j_lit, j_i, Int.reduceToNat, Int.reduceAdd, Int.reduceSub, Int.reduceMul, Int.reduceNeg, Int.reduceLT, Int.reduceLE, Int.reduceEq, gd_t, gd_T, bd_t, lh_t, on_s, on_n, ec_l, ec_r, if_true, if_false, true_and, and_true, false_and, and_false, true_or, or_true, false_or, or_false, Bool.false_eq_true, b2i_0, b2i_1, bl_0, bl_1, bl_b2, not_true_eq_false, not_false_eq_true, cs1.k, hz1, c1.k, c1.r5, c1.kL, j2.k, i0, e1, q1]
      exact Ok1.some ⟨rfl, f2⟩
    · by_cases q2 : letP τ y (sinceS τ false s y)
      · simp (disch := omega) only [i_lit, i_neg, i_add, i_sub, i_mul, i_ofNat, i_div, i_le, i_lt, i_eq, i_ix, i_inb, i_max, i_min, e_rem, j_lit, j_i, Int.reduceToNat, Int.reduceAdd, Int.reduceSub, Int.reduceMul, Int.reduceNeg, Int.reduceLT, Int.reduceLE, Int.reduceEq, gd_t, gd_T, bd_t, lh_t, on_s, on_n, ec_l, ec_r, if_true, if_false, true_and, and_true, false_and, and_false, true_or, or_true, false_or, or_false, Bool.false_eq_true, b2i_0, b2i_1, bl_0, bl_1, bl_b2, not_true_eq_false, not_false_eq_true, cs1.k, hz1, c1.k, c1.r5, c1.kL, j2.k, i0, e1, q1, cs1.r273, cs1.k273, cs1.l273, v4, v6, e2, q2]
        exact Ok1.some ⟨rfl, f2⟩
      · simp (disch := omega) only [i_lit, i_neg, i_add, i_sub, i_mul, i_ofNat, i_div, i_le, i_lt, i_eq, i_ix, i_inb, i_max, i_min, e_rem, j_lit, j_i, Int.reduceToNat, Int.reduceAdd, Int.reduceSub, Int.reduceMul, Int.reduceNeg, Int.reduceLT, Int.reduceLE, Int.reduceEq, gd_t, gd_T, bd_t, lh_t, on_s, on_n, ec_l, ec_r, if_true, if_false, true_and, and_true, false_and, and_false, true_or, or_true, false_or, or_false, Bool.false_eq_true, b2i_0, b2i_1, bl_0, bl_1, bl_b2, not_true_eq_false, not_false_eq_true, cs1.k, hz1, c1.k, c1.r5, c1.kL, j2.k, i0, e1, q1, cs1.r273, cs1.k273, cs1.l273, v4, v6, e2, q2]
        exact Ok1.some ⟨rfl, f2⟩
  · intro hT m tn hb
    have ts := tn.s
    obtain ⟨⟨u0, g1⟩, u1, u2, u3⟩ := w3 hT m tn hb
    have u2 : u0 = iI w := u2
    have u3 : tf (fun a => a = m + 9) hT g1 := u3
    subst u2
    have tn1 := tn.tf u3 (by omega)
    have ts1 := tn1.s
    have ti1 := tn1.i
    have e1 := seen_eq tn (bt := false) hb (s := s) (x := y - 1) (by omega) (by omega) (by intro q; cases q)
    have e2 := makes_end tn1 (bt := false) (by rw [u3.I (by omega)]; exact hb) c.rg sr w1 own r8 hsi
    have r9 := c.rg.cap
    unfold F_X8_makes
    unfold capS at e2
    by_cases q1 : τ 122 = -1
    · simp (disch := omega) only [i_lit, i_neg, i_add, i_sub, i_mul, i_ofNat, i_div, i_le, i_lt, i_eq, i_ix, i_inb, i_max, i_min, e_rem, j_lit, j_i, Int.reduceToNat, Int.reduceAdd, Int.reduceSub, Int.reduceMul, Int.reduceNeg, Int.reduceLT, Int.reduceLE, Int.reduceEq, gd_t, gd_T, bd_t, lh_t, on_s, on_n, ec_l, ec_r, if_true, if_false, true_and, and_true, false_and, and_false, true_or, or_true, false_or, or_false, Bool.false_eq_true, b2i_0, b2i_1, bl_0, bl_1, bl_b2, not_true_eq_false, not_false_eq_true, ts.k, ts.r1, ts.k1, ts.l1, ts.r2, ts.k2, ts.l2, ts.r3, ts.k3, ts.l3, ts.r4, ts.k4, ts.l4, ts.r5, ts.k5, ts.l5, ts.r6, ts.k6, ts.l6, ts.r7, ts.k7, ts.l7, ts.r8, ts.k8, ts.l8, ts.r9, ts.k9, ts.l9, ts.r10, ts.k10, ts.l10, ts.r11, ts.k11, ts.l11, ts.r12, ts.k12, ts.l12, ts.r13, ts.k13, ts.l13, ts.r14, ts.k14, ts.l14, ts.r15, ts.k15, ts.l15, ts.r16, ts.k16, ts.l16, ts.r17, ts.k17, ts.l17, ts.r18, ts.k18, ts.l18, ts.r19, ts.k19, ts.l19, ts.r20, ts.k20, ts.l20, e1, u1, ts1.k, ts1.r1, ts1.k1, ts1.l1, ts1.r2, ts1.k2, ts1.l2, ts1.r3, ts1.k3, ts1.l3, ts1.r4, ts1.k4, ts1.l4, ts1.r5, ts1.k5, ts1.l5, ts1.r6, ts1.k6, ts1.l6, ts1.r7, ts1.k7, ts1.l7, ts1.r8, ts1.k8, ts1.l8, ts1.r9, ts1.k9, ts1.l9, ts1.r10, ts1.k10, ts1.l10, ts1.r11, ts1.k11, ts1.l11, ts1.r12, ts1.k12, ts1.l12, ts1.r13, ts1.k13, ts1.l13, ts1.r14, ts1.k14, ts1.l14, ts1.r15, ts1.k15, ts1.l15, ts1.r16, ts1.k16, ts1.l16, ts1.r17, ts1.k17, ts1.l17, ts1.r18, ts1.k18, ts1.l18, ts1.r19, ts1.k19, ts1.l19, ts1.r20, ts1.k20, ts1.l20, ti1, q1] at e2 ⊢
      rw [e2]
      exact Ok1.some ⟨rfl, u3⟩
    · simp (disch := omega) only [i_lit, i_neg, i_add, i_sub, i_mul, i_ofNat, i_div, i_le, i_lt, i_eq, i_ix, i_inb, i_max, i_min, e_rem, j_lit, j_i, Int.reduceToNat, Int.reduceAdd, Int.reduceSub, Int.reduceMul, Int.reduceNeg, Int.reduceLT, Int.reduceLE, Int.reduceEq, gd_t, gd_T, bd_t, lh_t, on_s, on_n, ec_l, ec_r, if_true, if_false, true_and, and_true, false_and, and_false, true_or, or_true, false_or, or_false, Bool.false_eq_true, b2i_0, b2i_1, bl_0, bl_1, bl_b2, not_true_eq_false, not_false_eq_true, ts.k, ts.r1, ts.k1, ts.l1, ts.r2, ts.k2, ts.l2, ts.r3, ts.k3, ts.l3, ts.r4, ts.k4, ts.l4, ts.r5, ts.k5, ts.l5, ts.r6, ts.k6, ts.l6, ts.r7, ts.k7, ts.l7, ts.r8, ts.k8, ts.l8, ts.r9, ts.k9, ts.l9, ts.r10, ts.k10, ts.l10, ts.r11, ts.k11, ts.l11, ts.r12, ts.k12, ts.l12, ts.r13, ts.k13, ts.l13, ts.r14, ts.k14, ts.l14, ts.r15, ts.k15, ts.l15, ts.r16, ts.k16, ts.l16, ts.r17, ts.k17, ts.l17, ts.r18, ts.k18, ts.l18, ts.r19, ts.k19, ts.l19, ts.r20, ts.k20, ts.l20, e1, u1, ts1.k, ts1.r1, ts1.k1, ts1.l1, ts1.r2, ts1.k2, ts1.l2, ts1.r3, ts1.k3, ts1.l3, ts1.r4, ts1.k4, ts1.l4, ts1.r5, ts1.k5, ts1.l5, ts1.r6, ts1.k6, ts1.l6, ts1.r7, ts1.k7, ts1.l7, ts1.r8, ts1.k8, ts1.l8, ts1.r9, ts1.k9, ts1.l9, ts1.r10, ts1.k10, ts1.l10, ts1.r11, ts1.k11, ts1.l11, ts1.r12, ts1.k12, ts1.l12, ts1.r13, ts1.k13, ts1.l13, ts1.r14, ts1.k14, ts1.l14, ts1.r15, ts1.k15, ts1.l15, ts1.r16, ts1.k16, ts1.l16, ts1.r17, ts1.k17, ts1.l17, ts1.r18, ts1.k18, ts1.l18, ts1.r19, ts1.k19, ts1.l19, ts1.r20, ts1.k20, ts1.l20, ti1, q1] at e2 ⊢
      rw [e2]
      exact Ok1.some ⟨rfl, u3⟩
theorem sets_k5 {o : Nat → Nat} {t : Nat} {h : AH} {x : Nat} {τ : Nat → Int} {υ : Nat → Int64} {e : Nat → Nat} {el : Nat → Nat → Nat} {lw : Nat} (c : CrP o t h x τ υ e el lw) {z : Nat} (cs : CS h z) (hz : hR h z 0 = some x) (ow : OW o z) (ht1 : t ≠ 1) {s y : Int} (hs : 0 ≤ s ∧ s < τ 0) (hy : 1 ≤ y ∧ y < τ 5) (hsi : 0 ≤ sinceS τ true s y ∧ sinceS τ true s y ≤ 99) :
    ∃ v : Int, (0 ≤ v ∧ v ≤ 99) ∧ Ok1 (F_X1_sets_k5 h z (z + 272) (iI s) (iI y)) (fun r => r.1 = iI v ∧ tf (fun a => a = z + 273) h r.2) ∧
      ∀ (hT : AH) (m : Nat), TN hT m τ → hI hT m 23 = b2 (true = true) → Ok1 (F_X8_makes hT m (iI s) (iI y)) (fun r => r.1 = iI v ∧ tf (fun a => a = m + 9) hT r.2) := by
  have hn := c.rg.n
  have ht := c.rg.t
  obtain ⟨k1, k2⟩ := stat_at c hs
  obtain ⟨h1, f1, f2, f3⟩ := looks_k5 c cs hz ow ht1 hs hy
  have c1 := c.tf f2 (fun a q => by subst q; exact ⟨ow _ (by omega), by rw [cs.k273]; unfold imK; omega, by rw [cs.k273]; omega⟩) ht1
  have cs1 := cs.tf f2
  have hz1 : hR h1 z 0 = some x := by rw [f2.R]; exact hz
  obtain ⟨j1, j2⟩ := stat_at c1 hs
  obtain ⟨w, w1, w2, w3⟩ := wish_k5 c1 cs1 hz1 hs hy f3
  have sr : SR τ true s y := SR.of c.rg hs (by omega) (by intro q; omega)
  have own := seen_rng c.rg (bt := true) (s := s) (y := y - 1) (by omega) (by omega) (by intro q; omega)
  have r8 := c.rg.cost s.toNat (by omega)
  have i0 := j2.i0
  rw [show 8 + s.toNat = (8 + s).toNat by omega] at r8 i0
  have v0 := f3 0 (by omega)
  have v4 := f3 4 (by omega)
  have v6 := f3 6 (by omega)
  simp only [Int.ofNat_eq_natCast, Int.natCast_zero, Int.add_zero, worth0] at v0
  rw [show worthS τ true s y (100 + ((4 : Nat) : Int)) = y % 24 from rfl] at v4
  rw [show worthS τ true s y (100 + ((6 : Nat) : Int)) = sinceS τ true s y from rfl] at v6
  have hdec : Decidable (letP τ y (sinceS τ true s y)) := Classical.propDecidable _
  have hbn : 0 ≤ bndS τ w (seenS τ true s (y - 1)) (τ (8 + s).toNat) ∧ bndS τ w (seenS τ true s (y - 1)) (τ (8 + s).toNat) ≤ 99 := by unfold bndS; omega
  refine ⟨if bndS τ w (seenS τ true s (y - 1)) (τ (8 + s).toNat) = seenS τ true s (y - 1) then seenS τ true s (y - 1) else if letP τ y (sinceS τ true s y) then bndS τ w (seenS τ true s (y - 1)) (τ (8 + s).toNat) else seenS τ true s (y - 1), ?_, ?_, ?_⟩
  · repeat' split
    all_goals omega
  · unfold F_X1_sets_k5
    simp (disch := omega) only [i_lit, i_neg, i_add, i_sub, i_mul, i_ofNat, i_div, i_le, i_lt, i_eq, i_ix, i_inb, i_max, i_min, e_rem, j_lit, j_i, Int.reduceToNat, Int.reduceAdd, Int.reduceSub, Int.reduceMul, Int.reduceNeg, Int.reduceLT, Int.reduceLE, Int.reduceEq, gd_t, gd_T, bd_t, lh_t, on_s, on_n, ec_l, ec_r, if_true, if_false, true_and, and_true, false_and, and_false, true_or, or_true, false_or, or_false, Bool.false_eq_true, b2i_0, b2i_1, bl_0, bl_1, bl_b2, not_true_eq_false, not_false_eq_true, cs.k, hz, c.k, c.r0, c.a0.k, k1, k2.k, f1, cs1.k, cs1.r273, cs1.k273, cs1.l273, v0]
    refine w2 _ ?_
    unfold B_X1_sets_k5_111 B_X1_sets_k5_165 B_X1_sets_k5_172
    have e1 := bounded_eq c1 w1 own r8
    have e2 := lets_eq c1 (y := y) hsi
    by_cases q1 : bndS τ w (seenS τ true s (y - 1)) (τ (8 + s).toNat) = seenS τ true s (y - 1)
    · simp (disch := omega) only [i_lit, i_neg, i_add, i_sub, i_mul, i_ofNat, i_div, i_le, i_lt, i_eq, i_ix, i_inb, i_max, i_min, e_rem, j_lit, j_i, Int.reduceToNat, Int.reduceAdd, Int.reduceSub, Int.reduceMul, Int.reduceNeg, Int.reduceLT, Int.reduceLE, Int.reduceEq, gd_t, gd_T, bd_t, lh_t, on_s, on_n, ec_l, ec_r, if_true, if_false, true_and, and_true, false_and, and_false, true_or, or_true, false_or, or_false, Bool.false_eq_true, b2i_0, b2i_1, bl_0, bl_1, bl_b2, not_true_eq_false, not_false_eq_true, cs1.k, hz1, c1.k, c1.r5, c1.kL, j2.k, i0, e1, q1]
      exact Ok1.some ⟨rfl, f2⟩
    · by_cases q2 : letP τ y (sinceS τ true s y)
      · simp (disch := omega) only [i_lit, i_neg, i_add, i_sub, i_mul, i_ofNat, i_div, i_le, i_lt, i_eq, i_ix, i_inb, i_max, i_min, e_rem, j_lit, j_i, Int.reduceToNat, Int.reduceAdd, Int.reduceSub, Int.reduceMul, Int.reduceNeg, Int.reduceLT, Int.reduceLE, Int.reduceEq, gd_t, gd_T, bd_t, lh_t, on_s, on_n, ec_l, ec_r, if_true, if_false, true_and, and_true, false_and, and_false, true_or, or_true, false_or, or_false, Bool.false_eq_true, b2i_0, b2i_1, bl_0, bl_1, bl_b2, not_true_eq_false, not_false_eq_true, cs1.k, hz1, c1.k, c1.r5, c1.kL, j2.k, i0, e1, q1, cs1.r273, cs1.k273, cs1.l273, v4, v6, e2, q2]
        exact Ok1.some ⟨rfl, f2⟩
      · simp (disch := omega) only [i_lit, i_neg, i_add, i_sub, i_mul, i_ofNat, i_div, i_le, i_lt, i_eq, i_ix, i_inb, i_max, i_min, e_rem, j_lit, j_i, Int.reduceToNat, Int.reduceAdd, Int.reduceSub, Int.reduceMul, Int.reduceNeg, Int.reduceLT, Int.reduceLE, Int.reduceEq, gd_t, gd_T, bd_t, lh_t, on_s, on_n, ec_l, ec_r, if_true, if_false, true_and, and_true, false_and, and_false, true_or, or_true, false_or, or_false, Bool.false_eq_true, b2i_0, b2i_1, bl_0, bl_1, bl_b2, not_true_eq_false, not_false_eq_true, cs1.k, hz1, c1.k, c1.r5, c1.kL, j2.k, i0, e1, q1, cs1.r273, cs1.k273, cs1.l273, v4, v6, e2, q2]
        exact Ok1.some ⟨rfl, f2⟩
  · intro hT m tn hb
    have ts := tn.s
    obtain ⟨⟨u0, g1⟩, u1, u2, u3⟩ := w3 hT m tn hb
    have u2 : u0 = iI w := u2
    have u3 : tf (fun a => a = m + 9) hT g1 := u3
    subst u2
    have tn1 := tn.tf u3 (by omega)
    have ts1 := tn1.s
    have ti1 := tn1.i
    have e1 := seen_eq tn (bt := true) hb (s := s) (x := y - 1) (by omega) (by omega) (by intro q; omega)
    have e2 := makes_end tn1 (bt := true) (by rw [u3.I (by omega)]; exact hb) c.rg sr w1 own r8 hsi
    have r9 := c.rg.cap
    unfold F_X8_makes
    unfold capS at e2
    by_cases q1 : τ 122 = -1
    · simp (disch := omega) only [i_lit, i_neg, i_add, i_sub, i_mul, i_ofNat, i_div, i_le, i_lt, i_eq, i_ix, i_inb, i_max, i_min, e_rem, j_lit, j_i, Int.reduceToNat, Int.reduceAdd, Int.reduceSub, Int.reduceMul, Int.reduceNeg, Int.reduceLT, Int.reduceLE, Int.reduceEq, gd_t, gd_T, bd_t, lh_t, on_s, on_n, ec_l, ec_r, if_true, if_false, true_and, and_true, false_and, and_false, true_or, or_true, false_or, or_false, Bool.false_eq_true, b2i_0, b2i_1, bl_0, bl_1, bl_b2, not_true_eq_false, not_false_eq_true, ts.k, ts.r1, ts.k1, ts.l1, ts.r2, ts.k2, ts.l2, ts.r3, ts.k3, ts.l3, ts.r4, ts.k4, ts.l4, ts.r5, ts.k5, ts.l5, ts.r6, ts.k6, ts.l6, ts.r7, ts.k7, ts.l7, ts.r8, ts.k8, ts.l8, ts.r9, ts.k9, ts.l9, ts.r10, ts.k10, ts.l10, ts.r11, ts.k11, ts.l11, ts.r12, ts.k12, ts.l12, ts.r13, ts.k13, ts.l13, ts.r14, ts.k14, ts.l14, ts.r15, ts.k15, ts.l15, ts.r16, ts.k16, ts.l16, ts.r17, ts.k17, ts.l17, ts.r18, ts.k18, ts.l18, ts.r19, ts.k19, ts.l19, ts.r20, ts.k20, ts.l20, e1, u1, ts1.k, ts1.r1, ts1.k1, ts1.l1, ts1.r2, ts1.k2, ts1.l2, ts1.r3, ts1.k3, ts1.l3, ts1.r4, ts1.k4, ts1.l4, ts1.r5, ts1.k5, ts1.l5, ts1.r6, ts1.k6, ts1.l6, ts1.r7, ts1.k7, ts1.l7, ts1.r8, ts1.k8, ts1.l8, ts1.r9, ts1.k9, ts1.l9, ts1.r10, ts1.k10, ts1.l10, ts1.r11, ts1.k11, ts1.l11, ts1.r12, ts1.k12, ts1.l12, ts1.r13, ts1.k13, ts1.l13, ts1.r14, ts1.k14, ts1.l14, ts1.r15, ts1.k15, ts1.l15, ts1.r16, ts1.k16, ts1.l16, ts1.r17, ts1.k17, ts1.l17, ts1.r18, ts1.k18, ts1.l18, ts1.r19, ts1.k19, ts1.l19, ts1.r20, ts1.k20, ts1.l20, ti1, q1] at e2 ⊢
      rw [e2]
      exact Ok1.some ⟨rfl, u3⟩
    · simp (disch := omega) only [i_lit, i_neg, i_add, i_sub, i_mul, i_ofNat, i_div, i_le, i_lt, i_eq, i_ix, i_inb, i_max, i_min, e_rem, j_lit, j_i, Int.reduceToNat, Int.reduceAdd, Int.reduceSub, Int.reduceMul, Int.reduceNeg, Int.reduceLT, Int.reduceLE, Int.reduceEq, gd_t, gd_T, bd_t, lh_t, on_s, on_n, ec_l, ec_r, if_true, if_false, true_and, and_true, false_and, and_false, true_or, or_true, false_or, or_false, Bool.false_eq_true, b2i_0, b2i_1, bl_0, bl_1, bl_b2, not_true_eq_false, not_false_eq_true, ts.k, ts.r1, ts.k1, ts.l1, ts.r2, ts.k2, ts.l2, ts.r3, ts.k3, ts.l3, ts.r4, ts.k4, ts.l4, ts.r5, ts.k5, ts.l5, ts.r6, ts.k6, ts.l6, ts.r7, ts.k7, ts.l7, ts.r8, ts.k8, ts.l8, ts.r9, ts.k9, ts.l9, ts.r10, ts.k10, ts.l10, ts.r11, ts.k11, ts.l11, ts.r12, ts.k12, ts.l12, ts.r13, ts.k13, ts.l13, ts.r14, ts.k14, ts.l14, ts.r15, ts.k15, ts.l15, ts.r16, ts.k16, ts.l16, ts.r17, ts.k17, ts.l17, ts.r18, ts.k18, ts.l18, ts.r19, ts.k19, ts.l19, ts.r20, ts.k20, ts.l20, e1, u1, ts1.k, ts1.r1, ts1.k1, ts1.l1, ts1.r2, ts1.k2, ts1.l2, ts1.r3, ts1.k3, ts1.l3, ts1.r4, ts1.k4, ts1.l4, ts1.r5, ts1.k5, ts1.l5, ts1.r6, ts1.k6, ts1.l6, ts1.r7, ts1.k7, ts1.l7, ts1.r8, ts1.k8, ts1.l8, ts1.r9, ts1.k9, ts1.l9, ts1.r10, ts1.k10, ts1.l10, ts1.r11, ts1.k11, ts1.l11, ts1.r12, ts1.k12, ts1.l12, ts1.r13, ts1.k13, ts1.l13, ts1.r14, ts1.k14, ts1.l14, ts1.r15, ts1.k15, ts1.l15, ts1.r16, ts1.k16, ts1.l16, ts1.r17, ts1.k17, ts1.l17, ts1.r18, ts1.k18, ts1.l18, ts1.r19, ts1.k19, ts1.l19, ts1.r20, ts1.k20, ts1.l20, ti1, q1] at e2 ⊢
      rw [e2]
      exact Ok1.some ⟨rfl, u3⟩
