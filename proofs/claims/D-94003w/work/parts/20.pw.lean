/-! PURE W: where drivers fill, both sides -/
set_option maxRecDepth 100000
def whF (τ : Nat → Int) (p : Nat → Int) (k : Nat) (o : Nat) (b : Int × Int) : Int × Int := if (o : Int) = τ (29 + 4 * k) then b else if τ 123 = 1 ∨ ((iI (τ (30 + 4 * k))) >>> ((iI (o : Int)) &&& iI 31)) &&& iI 1 = iI 1 then (if p o + τ (31 + 4 * k) < b.2 then ((o : Int), p o + τ (31 + 4 * k)) else b) else b
def whS (τ : Nat → Int) (p : Nat → Int) (k : Nat) : Int := (itr (whF τ p k) (τ 0).toNat 0 (τ (29 + 4 * k), p (τ (29 + 4 * k)).toNat)).1
theorem whS_rng {τ p : Nat → Int} (rg : RG τ) {k : Nat} (hk : (k : Int) < τ 1) : 0 ≤ whS τ p k ∧ whS τ p k < τ 0 := by
  have h1 := (rg.drv k hk).2.1
  have key : ∀ (n i : Nat) (b : Int × Int), (i : Int) + n ≤ τ 0 → (0 ≤ b.1 ∧ b.1 < τ 0) → 0 ≤ (itr (whF τ p k) n i b).1 ∧ (itr (whF τ p k) n i b).1 < τ 0 := by
    intro n
    induction n with
    | zero => intro i b _ hb; exact hb
    | succ n ih =>
      intro i b hi hb
      rw [itr]
      refine ih (i + 1) _ (by omega) ?_
      unfold whF
      repeat' split
      · exact hb
      · exact ⟨by show (0 : Int) ≤ (i : Int); omega, by show (i : Int) < τ 0; omega⟩
      · exact hb
      · exact hb
  exact key _ _ _ (by have := rg.n; omega) h1
theorem goesTo_eq {o : Nat → Nat} {t : Nat} {h : AH} {x : Nat} {τ : Nat → Int} {υ : Nat → Int64} {e : Nat → Nat} {el : Nat → Nat → Nat} {lw : Nat} (c : CrP o t h x τ υ e el lw) {z : Nat} (cs : CS h z) (hz : hR h z 0 = some x) {P : Nat} {p : Nat → Int} (hP1 : hK h P = 100) (hP2 : hL h P = 4) (hP3 : ∀ i : Nat, (i : Int) < τ 0 → hI h P i = iI (p i)) (hp : ∀ i : Nat, (i : Int) < τ 0 → 0 ≤ p i ∧ p i ≤ 99) {k : Nat} (hk : (k : Int) < τ 1) : F_X1_goesTo h z (el 1 k) P = some (iI (whS τ p k)) := by
  have hn4 := c.rg.n
  obtain ⟨-, k2, k3, k4, k5, k6⟩ := c.dr k hk
  obtain ⟨d1, d2, d3, d4⟩ := c.rg.drv k hk
  have e0 := hP3 (τ (29 + 4 * k)).toNat (by omega)
  have p0 := hp (τ (29 + 4 * k)).toNat (by omega)
  have t123 := c.rg.told
  have key : Ok1 (F_X1_goesTo h z (el 1 k) P) (fun r => r = iI (whS τ p k)) := by
    unfold F_X1_goesTo G_X1_goesTo_16
    simp (disch := omega) only [i_lit, i_neg, i_add, i_sub, i_mul, i_ofNat, i_div, i_le, i_lt, i_eq, i_ix, i_inb, i_max, i_min, e_rem, j_lit, j_i, Int.reduceToNat, Int.reduceAdd, Int.reduceSub, Int.reduceMul, Int.reduceNeg, Int.reduceLT, Int.reduceLE, Int.reduceEq, gd_t, gd_T, bd_t, lh_t, on_s, on_n, ec_l, ec_r, if_true, if_false, true_and, and_true, false_and, and_false, true_or, or_true, false_or, or_false, Bool.false_eq_true, b2i_0, b2i_1, bl_0, bl_1, bl_b2, not_true_eq_false, not_false_eq_true, k2, k4, hP1, hP2, e0]
    refine lp_ok (fun st j => ∃ b l o : Int, st = (z, el 1 k, P, iI b, iI l, iI o) ∧ 0 ≤ o ∧ o ≤ τ 0 ∧ j = (τ 0 - o).toNat ∧ (0 ≤ b ∧ b < τ 0) ∧ (-200 ≤ l ∧ l ≤ 200) ∧ (itr (whF τ p k) (τ 0 - o).toNat o.toNat (b, l)).1 = whS τ p k) ?_ fuel (τ 0).toNat _ ⟨τ (29 + 4 * k), p (τ (29 + 4 * k)).toNat, 0, rfl, by omega, by omega, by simp, by omega, by omega, by simp [whS]⟩ (lt_fuel (by omega))
    rintro self st j ⟨b, l, o, rfl, h1, h2, rfl, h4, h5, h6⟩ ih
    unfold L_X1_goesTo_16 B_X1_goesTo_16 B_X1_goesTo_62 B_X1_goesTo_93 B_X1_goesTo_99 F_X1_has B_X1_has_14
    by_cases ho : τ 0 ≤ o
    · rw [show (τ 0 - o).toNat = 0 by omega] at h6
      have h6 : b = whS τ p k := h6
      simp (disch := omega) only [i_lit, i_neg, i_add, i_sub, i_mul, i_ofNat, i_div, i_le, i_lt, i_eq, i_ix, i_inb, i_max, i_min, e_rem, j_lit, j_i, Int.reduceToNat, Int.reduceAdd, Int.reduceSub, Int.reduceMul, Int.reduceNeg, Int.reduceLT, Int.reduceLE, Int.reduceEq, gd_t, gd_T, bd_t, lh_t, on_s, on_n, ec_l, ec_r, if_true, if_false, true_and, and_true, false_and, and_false, true_or, or_true, false_or, or_false, Bool.false_eq_true, b2i_0, b2i_1, bl_0, bl_1, bl_b2, not_true_eq_false, not_false_eq_true, cs.k, hz, c.k, many_eq c, ho]
      exact Ok1.some (by rw [h6])
    · have eo : ((o.toNat : Nat) : Int) = o := by omega
      have po := hp o.toNat (by omega)
      have vo := hP3 o.toNat (by omega)
      have hk' : ∀ b' l', (0 ≤ b' ∧ b' < τ 0) → (-200 ≤ l' ∧ l' ≤ 200) → whF τ p k o.toNat (b, l) = (b', l') → Ok1 (self (z, el 1 k, P, iI b', iI l', iI (o + 1))) (fun r => r = iI (whS τ p k)) := by
        intro b' l' hb' hl' hf
        refine ih _ (τ 0 - (o + 1)).toNat (by omega) ⟨b', l', o + 1, rfl, by omega, by omega, rfl, hb', hl', ?_⟩
        rw [← h6, show (τ 0 - o).toNat = (τ 0 - (o + 1)).toNat + 1 by omega, itr, hf, show (o + 1).toNat = o.toNat + 1 by omega]
      unfold whF at hk'
      rw [eo] at hk'
      by_cases q1 : o = τ (29 + 4 * k)
      · simp (disch := omega) only [i_lit, i_neg, i_add, i_sub, i_mul, i_ofNat, i_div, i_le, i_lt, i_eq, i_ix, i_inb, i_max, i_min, e_rem, j_lit, j_i, Int.reduceToNat, Int.reduceAdd, Int.reduceSub, Int.reduceMul, Int.reduceNeg, Int.reduceLT, Int.reduceLE, Int.reduceEq, gd_t, gd_T, bd_t, lh_t, on_s, on_n, ec_l, ec_r, if_true, if_false, true_and, and_true, false_and, and_false, true_or, or_true, false_or, or_false, Bool.false_eq_true, b2i_0, b2i_1, bl_0, bl_1, bl_b2, not_true_eq_false, not_false_eq_true, cs.k, hz, c.k, many_eq c, ho, k2, k4, q1]
        rw [if_neg (by omega)]
        rw [q1] at hk'
        simp (disch := omega) only [i_lit, i_neg, i_add, i_sub, i_mul, i_ofNat, i_div, i_le, i_lt, i_eq, i_ix, i_inb, i_max, i_min, e_rem, j_lit, j_i, Int.reduceToNat, Int.reduceAdd, Int.reduceSub, Int.reduceMul, Int.reduceNeg, Int.reduceLT, Int.reduceLE, Int.reduceEq, gd_t, gd_T, bd_t, lh_t, on_s, on_n, ec_l, ec_r, if_true, if_false, true_and, and_true, false_and, and_false, true_or, or_true, false_or, or_false, Bool.false_eq_true, b2i_0, b2i_1, bl_0, bl_1, bl_b2, not_true_eq_false, not_false_eq_true] at hk'
        exact hk' _ _ h4 h5 rfl
      · rcases t123 with q2 | q2
        · by_cases q3 : ((iI (τ (30 + 4 * k))) >>> ((iI o) &&& iI 31)) &&& iI 1 = iI 1
          · by_cases q4 : p o.toNat + τ (31 + 4 * k) < l
            · simp (disch := omega) only [i_lit, i_neg, i_add, i_sub, i_mul, i_ofNat, i_div, i_le, i_lt, i_eq, i_ix, i_inb, i_max, i_min, e_rem, j_lit, j_i, Int.reduceToNat, Int.reduceAdd, Int.reduceSub, Int.reduceMul, Int.reduceNeg, Int.reduceLT, Int.reduceLE, Int.reduceEq, gd_t, gd_T, bd_t, lh_t, on_s, on_n, ec_l, ec_r, if_true, if_false, true_and, and_true, false_and, and_false, true_or, or_true, false_or, or_false, Bool.false_eq_true, b2i_0, b2i_1, bl_0, bl_1, bl_b2, not_true_eq_false, not_false_eq_true, cs.k, hz, c.k, many_eq c, ho, k2, k4, q1, c.r5, c.kL, c.L3, q2, k5, q3, hP1, hP2, vo, k6, q4]
              simp (disch := omega) only [i_lit, i_neg, i_add, i_sub, i_mul, i_ofNat, i_div, i_le, i_lt, i_eq, i_ix, i_inb, i_max, i_min, e_rem, j_lit, j_i, Int.reduceToNat, Int.reduceAdd, Int.reduceSub, Int.reduceMul, Int.reduceNeg, Int.reduceLT, Int.reduceLE, Int.reduceEq, gd_t, gd_T, bd_t, lh_t, on_s, on_n, ec_l, ec_r, if_true, if_false, true_and, and_true, false_and, and_false, true_or, or_true, false_or, or_false, Bool.false_eq_true, b2i_0, b2i_1, bl_0, bl_1, bl_b2, not_true_eq_false, not_false_eq_true, q1, q2, q3, q4] at hk'
              exact hk' _ _ (by omega) (by omega) rfl
            · simp (disch := omega) only [i_lit, i_neg, i_add, i_sub, i_mul, i_ofNat, i_div, i_le, i_lt, i_eq, i_ix, i_inb, i_max, i_min, e_rem, j_lit, j_i, Int.reduceToNat, Int.reduceAdd, Int.reduceSub, Int.reduceMul, Int.reduceNeg, Int.reduceLT, Int.reduceLE, Int.reduceEq, gd_t, gd_T, bd_t, lh_t, on_s, on_n, ec_l, ec_r, if_true, if_false, true_and, and_true, false_and, and_false, true_or, or_true, false_or, or_false, Bool.false_eq_true, b2i_0, b2i_1, bl_0, bl_1, bl_b2, not_true_eq_false, not_false_eq_true, cs.k, hz, c.k, many_eq c, ho, k2, k4, q1, c.r5, c.kL, c.L3, q2, k5, q3, hP1, hP2, vo, k6, q4]
              simp (disch := omega) only [i_lit, i_neg, i_add, i_sub, i_mul, i_ofNat, i_div, i_le, i_lt, i_eq, i_ix, i_inb, i_max, i_min, e_rem, j_lit, j_i, Int.reduceToNat, Int.reduceAdd, Int.reduceSub, Int.reduceMul, Int.reduceNeg, Int.reduceLT, Int.reduceLE, Int.reduceEq, gd_t, gd_T, bd_t, lh_t, on_s, on_n, ec_l, ec_r, if_true, if_false, true_and, and_true, false_and, and_false, true_or, or_true, false_or, or_false, Bool.false_eq_true, b2i_0, b2i_1, bl_0, bl_1, bl_b2, not_true_eq_false, not_false_eq_true, q1, q2, q3, q4] at hk'
              exact hk' _ _ h4 h5 rfl
          · simp (disch := omega) only [i_lit, i_neg, i_add, i_sub, i_mul, i_ofNat, i_div, i_le, i_lt, i_eq, i_ix, i_inb, i_max, i_min, e_rem, j_lit, j_i, Int.reduceToNat, Int.reduceAdd, Int.reduceSub, Int.reduceMul, Int.reduceNeg, Int.reduceLT, Int.reduceLE, Int.reduceEq, gd_t, gd_T, bd_t, lh_t, on_s, on_n, ec_l, ec_r, if_true, if_false, true_and, and_true, false_and, and_false, true_or, or_true, false_or, or_false, Bool.false_eq_true, b2i_0, b2i_1, bl_0, bl_1, bl_b2, not_true_eq_false, not_false_eq_true, cs.k, hz, c.k, many_eq c, ho, k2, k4, q1, c.r5, c.kL, c.L3, q2, k5, q3]
            simp (disch := omega) only [i_lit, i_neg, i_add, i_sub, i_mul, i_ofNat, i_div, i_le, i_lt, i_eq, i_ix, i_inb, i_max, i_min, e_rem, j_lit, j_i, Int.reduceToNat, Int.reduceAdd, Int.reduceSub, Int.reduceMul, Int.reduceNeg, Int.reduceLT, Int.reduceLE, Int.reduceEq, gd_t, gd_T, bd_t, lh_t, on_s, on_n, ec_l, ec_r, if_true, if_false, true_and, and_true, false_and, and_false, true_or, or_true, false_or, or_false, Bool.false_eq_true, b2i_0, b2i_1, bl_0, bl_1, bl_b2, not_true_eq_false, not_false_eq_true, q1, q2, q3] at hk'
            exact hk' _ _ h4 h5 rfl
        · by_cases q4 : p o.toNat + τ (31 + 4 * k) < l
          · simp (disch := omega) only [i_lit, i_neg, i_add, i_sub, i_mul, i_ofNat, i_div, i_le, i_lt, i_eq, i_ix, i_inb, i_max, i_min, e_rem, j_lit, j_i, Int.reduceToNat, Int.reduceAdd, Int.reduceSub, Int.reduceMul, Int.reduceNeg, Int.reduceLT, Int.reduceLE, Int.reduceEq, gd_t, gd_T, bd_t, lh_t, on_s, on_n, ec_l, ec_r, if_true, if_false, true_and, and_true, false_and, and_false, true_or, or_true, false_or, or_false, Bool.false_eq_true, b2i_0, b2i_1, bl_0, bl_1, bl_b2, not_true_eq_false, not_false_eq_true, cs.k, hz, c.k, many_eq c, ho, k2, k4, q1, c.r5, c.kL, c.L3, q2, hP1, hP2, vo, k6, q4]
            simp (disch := omega) only [i_lit, i_neg, i_add, i_sub, i_mul, i_ofNat, i_div, i_le, i_lt, i_eq, i_ix, i_inb, i_max, i_min, e_rem, j_lit, j_i, Int.reduceToNat, Int.reduceAdd, Int.reduceSub, Int.reduceMul, Int.reduceNeg, Int.reduceLT, Int.reduceLE, Int.reduceEq, gd_t, gd_T, bd_t, lh_t, on_s, on_n, ec_l, ec_r, if_true, if_false, true_and, and_true, false_and, and_false, true_or, or_true, false_or, or_false, Bool.false_eq_true, b2i_0, b2i_1, bl_0, bl_1, bl_b2, not_true_eq_false, not_false_eq_true, q1, q2, q4] at hk'
            exact hk' _ _ (by omega) (by omega) rfl
          · simp (disch := omega) only [i_lit, i_neg, i_add, i_sub, i_mul, i_ofNat, i_div, i_le, i_lt, i_eq, i_ix, i_inb, i_max, i_min, e_rem, j_lit, j_i, Int.reduceToNat, Int.reduceAdd, Int.reduceSub, Int.reduceMul, Int.reduceNeg, Int.reduceLT, Int.reduceLE, Int.reduceEq, gd_t, gd_T, bd_t, lh_t, on_s, on_n, ec_l, ec_r, if_true, if_false, true_and, and_true, false_and, and_false, true_or, or_true, false_or, or_false, Bool.false_eq_true, b2i_0, b2i_1, bl_0, bl_1, bl_b2, not_true_eq_false, not_false_eq_true, cs.k, hz, c.k, many_eq c, ho, k2, k4, q1, c.r5, c.kL, c.L3, q2, hP1, hP2, vo, k6, q4]
            simp (disch := omega) only [i_lit, i_neg, i_add, i_sub, i_mul, i_ofNat, i_div, i_le, i_lt, i_eq, i_ix, i_inb, i_max, i_min, e_rem, j_lit, j_i, Int.reduceToNat, Int.reduceAdd, Int.reduceSub, Int.reduceMul, Int.reduceNeg, Int.reduceLT, Int.reduceLE, Int.reduceEq, gd_t, gd_T, bd_t, lh_t, on_s, on_n, ec_l, ec_r, if_true, if_false, true_and, and_true, false_and, and_false, true_or, or_true, false_or, or_false, Bool.false_eq_true, b2i_0, b2i_1, bl_0, bl_1, bl_b2, not_true_eq_false, not_false_eq_true, q1, q2, q4] at hk'
            exact hk' _ _ h4 h5 rfl
  obtain ⟨r, h1, h2⟩ := key
  rw [h1, h2]
theorem where_eq {h : AH} {m : Nat} {τ : Nat → Int} (t : TN h m τ) (rg : RG τ) {p : Nat → Int} (hP3 : ∀ i : Nat, (i : Int) < τ 0 → hI h (m + 10) i = iI (p i)) (hp : ∀ i : Nat, (i : Int) < τ 0 → 0 ≤ p i ∧ p i ≤ 99) {k : Nat} (hk : (k : Int) < τ 1) : F_X8_where h m (iI k) = some (iI (whS τ p k)) := by
  have hn4 := rg.n
  have hd6 := rg.d
  have ts := t.s
  have ti := t.i
  obtain ⟨d1, d2, d3, d4⟩ := rg.drv k hk
  have e0 := hP3 (τ (29 + 4 * k)).toNat (by omega)
  have p0 := hp (τ (29 + 4 * k)).toNat (by omega)
  have t123 := rg.told
  have x1 : (28 + 4 * (k : Int) + 1).toNat = 29 + 4 * k := by omega
  have x2 : (28 + 4 * (k : Int) + 2).toNat = 30 + 4 * k := by omega
  have x3 : (28 + 4 * (k : Int) + 3).toNat = 31 + 4 * k := by omega
  have key : Ok1 (F_X8_where h m (iI k)) (fun r => r = iI (whS τ p k)) := by
    unfold F_X8_where G_X8_where_27
    simp (disch := omega) only [i_lit, i_neg, i_add, i_sub, i_mul, i_ofNat, i_div, i_le, i_lt, i_eq, i_ix, i_inb, i_max, i_min, e_rem, j_lit, j_i, Int.reduceToNat, Int.reduceAdd, Int.reduceSub, Int.reduceMul, Int.reduceNeg, Int.reduceLT, Int.reduceLE, Int.reduceEq, gd_t, gd_T, bd_t, lh_t, on_s, on_n, ec_l, ec_r, if_true, if_false, true_and, and_true, false_and, and_false, true_or, or_true, false_or, or_false, Bool.false_eq_true, b2i_0, b2i_1, bl_0, bl_1, bl_b2, not_true_eq_false, not_false_eq_true, ts.k, ts.r1, ts.k1, ts.l1, ts.r2, ts.k2, ts.l2, ts.r3, ts.k3, ts.l3, ts.r4, ts.k4, ts.l4, ts.r5, ts.k5, ts.l5, ts.r6, ts.k6, ts.l6, ts.r7, ts.k7, ts.l7, ts.r8, ts.k8, ts.l8, ts.r9, ts.k9, ts.l9, ts.r10, ts.k10, ts.l10, ts.r11, ts.k11, ts.l11, ts.r12, ts.k12, ts.l12, ts.r13, ts.k13, ts.l13, ts.r14, ts.k14, ts.l14, ts.r15, ts.k15, ts.l15, ts.r16, ts.k16, ts.l16, ts.r17, ts.k17, ts.l17, ts.r18, ts.k18, ts.l18, ts.r19, ts.k19, ts.l19, ts.r20, ts.k20, ts.l20, ti, x1, e0]
    refine lp_ok (fun st j => ∃ b l o : Int, st = (m, iI (28 + 4 * (k : Int)), iI b, iI l, iI o) ∧ 0 ≤ o ∧ o ≤ τ 0 ∧ j = (τ 0 - o).toNat ∧ (0 ≤ b ∧ b < τ 0) ∧ (-200 ≤ l ∧ l ≤ 200) ∧ (itr (whF τ p k) (τ 0 - o).toNat o.toNat (b, l)).1 = whS τ p k) ?_ fuel (τ 0).toNat _ ⟨τ (29 + 4 * k), p (τ (29 + 4 * k)).toNat, 0, rfl, by omega, by omega, by simp, by omega, by omega, by simp [whS]⟩ (lt_fuel (by omega))
    rintro self st j ⟨b, l, o, rfl, h1, h2, rfl, h4, h5, h6⟩ ih
    unfold L_X8_where_27 B_X8_where_27 B_X8_where_66 B_X8_where_71 B_X8_where_136 B_X8_where_142
    by_cases ho : τ 0 ≤ o
    · rw [show (τ 0 - o).toNat = 0 by omega] at h6
      have h6 : b = whS τ p k := h6
      simp (disch := omega) only [i_lit, i_neg, i_add, i_sub, i_mul, i_ofNat, i_div, i_le, i_lt, i_eq, i_ix, i_inb, i_max, i_min, e_rem, j_lit, j_i, Int.reduceToNat, Int.reduceAdd, Int.reduceSub, Int.reduceMul, Int.reduceNeg, Int.reduceLT, Int.reduceLE, Int.reduceEq, gd_t, gd_T, bd_t, lh_t, on_s, on_n, ec_l, ec_r, if_true, if_false, true_and, and_true, false_and, and_false, true_or, or_true, false_or, or_false, Bool.false_eq_true, b2i_0, b2i_1, bl_0, bl_1, bl_b2, not_true_eq_false, not_false_eq_true, ts.k, ts.r1, ts.k1, ts.l1, ts.r2, ts.k2, ts.l2, ts.r3, ts.k3, ts.l3, ts.r4, ts.k4, ts.l4, ts.r5, ts.k5, ts.l5, ts.r6, ts.k6, ts.l6, ts.r7, ts.k7, ts.l7, ts.r8, ts.k8, ts.l8, ts.r9, ts.k9, ts.l9, ts.r10, ts.k10, ts.l10, ts.r11, ts.k11, ts.l11, ts.r12, ts.k12, ts.l12, ts.r13, ts.k13, ts.l13, ts.r14, ts.k14, ts.l14, ts.r15, ts.k15, ts.l15, ts.r16, ts.k16, ts.l16, ts.r17, ts.k17, ts.l17, ts.r18, ts.k18, ts.l18, ts.r19, ts.k19, ts.l19, ts.r20, ts.k20, ts.l20, ti, ho]
      exact Ok1.some (by rw [h6])
    · have eo : ((o.toNat : Nat) : Int) = o := by omega
      have po := hp o.toNat (by omega)
      have vo := hP3 o.toNat (by omega)
      have hk' : ∀ b' l', (0 ≤ b' ∧ b' < τ 0) → (-200 ≤ l' ∧ l' ≤ 200) → whF τ p k o.toNat (b, l) = (b', l') → Ok1 (self (m, iI (28 + 4 * (k : Int)), iI b', iI l', iI (o + 1))) (fun r => r = iI (whS τ p k)) := by
        intro b' l' hb' hl' hf
        refine ih _ (τ 0 - (o + 1)).toNat (by omega) ⟨b', l', o + 1, rfl, by omega, by omega, rfl, hb', hl', ?_⟩
        rw [← h6, show (τ 0 - o).toNat = (τ 0 - (o + 1)).toNat + 1 by omega, itr, hf, show (o + 1).toNat = o.toNat + 1 by omega]
      unfold whF at hk'
      rw [eo] at hk'
      by_cases q1 : o = τ (29 + 4 * k)
      · rw [q1] at hk'
        simp (disch := omega) only [i_lit, i_neg, i_add, i_sub, i_mul, i_ofNat, i_div, i_le, i_lt, i_eq, i_ix, i_inb, i_max, i_min, e_rem, j_lit, j_i, Int.reduceToNat, Int.reduceAdd, Int.reduceSub, Int.reduceMul, Int.reduceNeg, Int.reduceLT, Int.reduceLE, Int.reduceEq, gd_t, gd_T, bd_t, lh_t, on_s, on_n, ec_l, ec_r, if_true, if_false, true_and, and_true, false_and, and_false, true_or, or_true, false_or, or_false, Bool.false_eq_true, b2i_0, b2i_1, bl_0, bl_1, bl_b2, not_true_eq_false, not_false_eq_true] at hk'
        have := hk' _ _ h4 h5 rfl
        rcases t123 with q2 | q2
        · by_cases q3 : ((iI (τ (30 + 4 * k))) >>> ((iI o) &&& iI 31)) &&& iI 1 = iI 1
          · simp (disch := omega) only [i_lit, i_neg, i_add, i_sub, i_mul, i_ofNat, i_div, i_le, i_lt, i_eq, i_ix, i_inb, i_max, i_min, e_rem, j_lit, j_i, Int.reduceToNat, Int.reduceAdd, Int.reduceSub, Int.reduceMul, Int.reduceNeg, Int.reduceLT, Int.reduceLE, Int.reduceEq, gd_t, gd_T, bd_t, lh_t, on_s, on_n, ec_l, ec_r, if_true, if_false, true_and, and_true, false_and, and_false, true_or, or_true, false_or, or_false, Bool.false_eq_true, b2i_0, b2i_1, bl_0, bl_1, bl_b2, not_true_eq_false, not_false_eq_true, ts.k, ts.r1, ts.k1, ts.l1, ts.r2, ts.k2, ts.l2, ts.r3, ts.k3, ts.l3, ts.r4, ts.k4, ts.l4, ts.r5, ts.k5, ts.l5, ts.r6, ts.k6, ts.l6, ts.r7, ts.k7, ts.l7, ts.r8, ts.k8, ts.l8, ts.r9, ts.k9, ts.l9, ts.r10, ts.k10, ts.l10, ts.r11, ts.k11, ts.l11, ts.r12, ts.k12, ts.l12, ts.r13, ts.k13, ts.l13, ts.r14, ts.k14, ts.l14, ts.r15, ts.k15, ts.l15, ts.r16, ts.k16, ts.l16, ts.r17, ts.k17, ts.l17, ts.r18, ts.k18, ts.l18, ts.r19, ts.k19, ts.l19, ts.r20, ts.k20, ts.l20, ti, ho, x1, x2, x3, q2, q3]
            rw [if_pos q1, q1]
            exact this
          · simp (disch := omega) only [i_lit, i_neg, i_add, i_sub, i_mul, i_ofNat, i_div, i_le, i_lt, i_eq, i_ix, i_inb, i_max, i_min, e_rem, j_lit, j_i, Int.reduceToNat, Int.reduceAdd, Int.reduceSub, Int.reduceMul, Int.reduceNeg, Int.reduceLT, Int.reduceLE, Int.reduceEq, gd_t, gd_T, bd_t, lh_t, on_s, on_n, ec_l, ec_r, if_true, if_false, true_and, and_true, false_and, and_false, true_or, or_true, false_or, or_false, Bool.false_eq_true, b2i_0, b2i_1, bl_0, bl_1, bl_b2, not_true_eq_false, not_false_eq_true, ts.k, ts.r1, ts.k1, ts.l1, ts.r2, ts.k2, ts.l2, ts.r3, ts.k3, ts.l3, ts.r4, ts.k4, ts.l4, ts.r5, ts.k5, ts.l5, ts.r6, ts.k6, ts.l6, ts.r7, ts.k7, ts.l7, ts.r8, ts.k8, ts.l8, ts.r9, ts.k9, ts.l9, ts.r10, ts.k10, ts.l10, ts.r11, ts.k11, ts.l11, ts.r12, ts.k12, ts.l12, ts.r13, ts.k13, ts.l13, ts.r14, ts.k14, ts.l14, ts.r15, ts.k15, ts.l15, ts.r16, ts.k16, ts.l16, ts.r17, ts.k17, ts.l17, ts.r18, ts.k18, ts.l18, ts.r19, ts.k19, ts.l19, ts.r20, ts.k20, ts.l20, ti, ho, x1, x2, x3, q2, q3]
            rw [if_pos q1, q1]
            exact this
        · simp (disch := omega) only [i_lit, i_neg, i_add, i_sub, i_mul, i_ofNat, i_div, i_le, i_lt, i_eq, i_ix, i_inb, i_max, i_min, e_rem, j_lit, j_i, Int.reduceToNat, Int.reduceAdd, Int.reduceSub, Int.reduceMul, Int.reduceNeg, Int.reduceLT, Int.reduceLE, Int.reduceEq, gd_t, gd_T, bd_t, lh_t, on_s, on_n, ec_l, ec_r, if_true, if_false, true_and, and_true, false_and, and_false, true_or, or_true, false_or, or_false, Bool.false_eq_true, b2i_0, b2i_1, bl_0, bl_1, bl_b2, not_true_eq_false, not_false_eq_true, ts.k, ts.r1, ts.k1, ts.l1, ts.r2, ts.k2, ts.l2, ts.r3, ts.k3, ts.l3, ts.r4, ts.k4, ts.l4, ts.r5, ts.k5, ts.l5, ts.r6, ts.k6, ts.l6, ts.r7, ts.k7, ts.l7, ts.r8, ts.k8, ts.l8, ts.r9, ts.k9, ts.l9, ts.r10, ts.k10, ts.l10, ts.r11, ts.k11, ts.l11, ts.r12, ts.k12, ts.l12, ts.r13, ts.k13, ts.l13, ts.r14, ts.k14, ts.l14, ts.r15, ts.k15, ts.l15, ts.r16, ts.k16, ts.l16, ts.r17, ts.k17, ts.l17, ts.r18, ts.k18, ts.l18, ts.r19, ts.k19, ts.l19, ts.r20, ts.k20, ts.l20, ti, ho, x1, x2, x3, q2]
          rw [if_pos q1, q1]
          exact this
      · rcases t123 with q2 | q2
        · by_cases q3 : ((iI (τ (30 + 4 * k))) >>> ((iI o) &&& iI 31)) &&& iI 1 = iI 1
          · by_cases q4 : p o.toNat + τ (31 + 4 * k) < l
            · simp (disch := omega) only [i_lit, i_neg, i_add, i_sub, i_mul, i_ofNat, i_div, i_le, i_lt, i_eq, i_ix, i_inb, i_max, i_min, e_rem, j_lit, j_i, Int.reduceToNat, Int.reduceAdd, Int.reduceSub, Int.reduceMul, Int.reduceNeg, Int.reduceLT, Int.reduceLE, Int.reduceEq, gd_t, gd_T, bd_t, lh_t, on_s, on_n, ec_l, ec_r, if_true, if_false, true_and, and_true, false_and, and_false, true_or, or_true, false_or, or_false, Bool.false_eq_true, b2i_0, b2i_1, bl_0, bl_1, bl_b2, not_true_eq_false, not_false_eq_true, ts.k, ts.r1, ts.k1, ts.l1, ts.r2, ts.k2, ts.l2, ts.r3, ts.k3, ts.l3, ts.r4, ts.k4, ts.l4, ts.r5, ts.k5, ts.l5, ts.r6, ts.k6, ts.l6, ts.r7, ts.k7, ts.l7, ts.r8, ts.k8, ts.l8, ts.r9, ts.k9, ts.l9, ts.r10, ts.k10, ts.l10, ts.r11, ts.k11, ts.l11, ts.r12, ts.k12, ts.l12, ts.r13, ts.k13, ts.l13, ts.r14, ts.k14, ts.l14, ts.r15, ts.k15, ts.l15, ts.r16, ts.k16, ts.l16, ts.r17, ts.k17, ts.l17, ts.r18, ts.k18, ts.l18, ts.r19, ts.k19, ts.l19, ts.r20, ts.k20, ts.l20, ti, ho, x1, x2, x3, q1, q2, q3, vo, q4]
              simp (disch := omega) only [i_lit, i_neg, i_add, i_sub, i_mul, i_ofNat, i_div, i_le, i_lt, i_eq, i_ix, i_inb, i_max, i_min, e_rem, j_lit, j_i, Int.reduceToNat, Int.reduceAdd, Int.reduceSub, Int.reduceMul, Int.reduceNeg, Int.reduceLT, Int.reduceLE, Int.reduceEq, gd_t, gd_T, bd_t, lh_t, on_s, on_n, ec_l, ec_r, if_true, if_false, true_and, and_true, false_and, and_false, true_or, or_true, false_or, or_false, Bool.false_eq_true, b2i_0, b2i_1, bl_0, bl_1, bl_b2, not_true_eq_false, not_false_eq_true, q1, q2, q3, q4] at hk'
              exact hk' _ _ (by omega) (by omega) rfl
            · simp (disch := omega) only [i_lit, i_neg, i_add, i_sub, i_mul, i_ofNat, i_div, i_le, i_lt, i_eq, i_ix, i_inb, i_max, i_min, e_rem, j_lit, j_i, Int.reduceToNat, Int.reduceAdd, Int.reduceSub, Int.reduceMul, Int.reduceNeg, Int.reduceLT, Int.reduceLE, Int.reduceEq, gd_t, gd_T, bd_t, lh_t, on_s, on_n, ec_l, ec_r, if_true, if_false, true_and, and_true, false_and, and_false, true_or, or_true, false_or, or_false, Bool.false_eq_true, b2i_0, b2i_1, bl_0, bl_1, bl_b2, not_true_eq_false, not_false_eq_true, ts.k, ts.r1, ts.k1, ts.l1, ts.r2, ts.k2, ts.l2, ts.r3, ts.k3, ts.l3, ts.r4, ts.k4, ts.l4, ts.r5, ts.k5, ts.l5, ts.r6, ts.k6, ts.l6, ts.r7, ts.k7, ts.l7, ts.r8, ts.k8, ts.l8, ts.r9, ts.k9, ts.l9, ts.r10, ts.k10, ts.l10, ts.r11, ts.k11, ts.l11, ts.r12, ts.k12, ts.l12, ts.r13, ts.k13, ts.l13, ts.r14, ts.k14, ts.l14, ts.r15, ts.k15, ts.l15, ts.r16, ts.k16, ts.l16, ts.r17, ts.k17, ts.l17, ts.r18, ts.k18, ts.l18, ts.r19, ts.k19, ts.l19, ts.r20, ts.k20, ts.l20, ti, ho, x1, x2, x3, q1, q2, q3, vo, q4]
              simp (disch := omega) only [i_lit, i_neg, i_add, i_sub, i_mul, i_ofNat, i_div, i_le, i_lt, i_eq, i_ix, i_inb, i_max, i_min, e_rem, j_lit, j_i, Int.reduceToNat, Int.reduceAdd, Int.reduceSub, Int.reduceMul, Int.reduceNeg, Int.reduceLT, Int.reduceLE, Int.reduceEq, gd_t, gd_T, bd_t, lh_t, on_s, on_n, ec_l, ec_r, if_true, if_false, true_and, and_true, false_and, and_false, true_or, or_true, false_or, or_false, Bool.false_eq_true, b2i_0, b2i_1, bl_0, bl_1, bl_b2, not_true_eq_false, not_false_eq_true, q1, q2, q3, q4] at hk'
              exact hk' _ _ h4 h5 rfl
          · simp (disch := omega) only [i_lit, i_neg, i_add, i_sub, i_mul, i_ofNat, i_div, i_le, i_lt, i_eq, i_ix, i_inb, i_max, i_min, e_rem, j_lit, j_i, Int.reduceToNat, Int.reduceAdd, Int.reduceSub, Int.reduceMul, Int.reduceNeg, Int.reduceLT, Int.reduceLE, Int.reduceEq, gd_t, gd_T, bd_t, lh_t, on_s, on_n, ec_l, ec_r, if_true, if_false, true_and, and_true, false_and, and_false, true_or, or_true, false_or, or_false, Bool.false_eq_true, b2i_0, b2i_1, bl_0, bl_1, bl_b2, not_true_eq_false, not_false_eq_true, ts.k, ts.r1, ts.k1, ts.l1, ts.r2, ts.k2, ts.l2, ts.r3, ts.k3, ts.l3, ts.r4, ts.k4, ts.l4, ts.r5, ts.k5, ts.l5, ts.r6, ts.k6, ts.l6, ts.r7, ts.k7, ts.l7, ts.r8, ts.k8, ts.l8, ts.r9, ts.k9, ts.l9, ts.r10, ts.k10, ts.l10, ts.r11, ts.k11, ts.l11, ts.r12, ts.k12, ts.l12, ts.r13, ts.k13, ts.l13, ts.r14, ts.k14, ts.l14, ts.r15, ts.k15, ts.l15, ts.r16, ts.k16, ts.l16, ts.r17, ts.k17, ts.l17, ts.r18, ts.k18, ts.l18, ts.r19, ts.k19, ts.l19, ts.r20, ts.k20, ts.l20, ti, ho, x1, x2, x3, q1, q2, q3]
            simp (disch := omega) only [i_lit, i_neg, i_add, i_sub, i_mul, i_ofNat, i_div, i_le, i_lt, i_eq, i_ix, i_inb, i_max, i_min, e_rem, j_lit, j_i, Int.reduceToNat, Int.reduceAdd, Int.reduceSub, Int.reduceMul, Int.reduceNeg, Int.reduceLT, Int.reduceLE, Int.reduceEq, gd_t, gd_T, bd_t, lh_t, on_s, on_n, ec_l, ec_r, if_true, if_false, true_and, and_true, false_and, and_false, true_or, or_true, false_or, or_false, Bool.false_eq_true, b2i_0, b2i_1, bl_0, bl_1, bl_b2, not_true_eq_false, not_false_eq_true, q1, q2, q3] at hk'
            exact hk' _ _ h4 h5 rfl
        · by_cases q4 : p o.toNat + τ (31 + 4 * k) < l
          · simp (disch := omega) only [i_lit, i_neg, i_add, i_sub, i_mul, i_ofNat, i_div, i_le, i_lt, i_eq, i_ix, i_inb, i_max, i_min, e_rem, j_lit, j_i, Int.reduceToNat, Int.reduceAdd, Int.reduceSub, Int.reduceMul, Int.reduceNeg, Int.reduceLT, Int.reduceLE, Int.reduceEq, gd_t, gd_T, bd_t, lh_t, on_s, on_n, ec_l, ec_r, if_true, if_false, true_and, and_true, false_and, and_false, true_or, or_true, false_or, or_false, Bool.false_eq_true, b2i_0, b2i_1, bl_0, bl_1, bl_b2, not_true_eq_false, not_false_eq_true, ts.k, ts.r1, ts.k1, ts.l1, ts.r2, ts.k2, ts.l2, ts.r3, ts.k3, ts.l3, ts.r4, ts.k4, ts.l4, ts.r5, ts.k5, ts.l5, ts.r6, ts.k6, ts.l6, ts.r7, ts.k7, ts.l7, ts.r8, ts.k8, ts.l8, ts.r9, ts.k9, ts.l9, ts.r10, ts.k10, ts.l10, ts.r11, ts.k11, ts.l11, ts.r12, ts.k12, ts.l12, ts.r13, ts.k13, ts.l13, ts.r14, ts.k14, ts.l14, ts.r15, ts.k15, ts.l15, ts.r16, ts.k16, ts.l16, ts.r17, ts.k17, ts.l17, ts.r18, ts.k18, ts.l18, ts.r19, ts.k19, ts.l19, ts.r20, ts.k20, ts.l20, ti, ho, x1, x2, x3, q1, q2, vo, q4]
            simp (disch := omega) only [i_lit, i_neg, i_add, i_sub, i_mul, i_ofNat, i_div, i_le, i_lt, i_eq, i_ix, i_inb, i_max, i_min, e_rem, j_lit, j_i, Int.reduceToNat, Int.reduceAdd, Int.reduceSub, Int.reduceMul, Int.reduceNeg, Int.reduceLT, Int.reduceLE, Int.reduceEq, gd_t, gd_T, bd_t, lh_t, on_s, on_n, ec_l, ec_r, if_true, if_false, true_and, and_true, false_and, and_false, true_or, or_true, false_or, or_false, Bool.false_eq_true, b2i_0, b2i_1, bl_0, bl_1, bl_b2, not_true_eq_false, not_false_eq_true, q1, q2, q4] at hk'
            exact hk' _ _ (by omega) (by omega) rfl
          · simp (disch := omega) only [i_lit, i_neg, i_add, i_sub, i_mul, i_ofNat, i_div, i_le, i_lt, i_eq, i_ix, i_inb, i_max, i_min, e_rem, j_lit, j_i, Int.reduceToNat, Int.reduceAdd, Int.reduceSub, Int.reduceMul, Int.reduceNeg, Int.reduceLT, Int.reduceLE, Int.reduceEq, gd_t, gd_T, bd_t, lh_t, on_s, on_n, ec_l, ec_r, if_true, if_false, true_and, and_true, false_and, and_false, true_or, or_true, false_or, or_false, Bool.false_eq_true, b2i_0, b2i_1, bl_0, bl_1, bl_b2, not_true_eq_false, not_false_eq_true, ts.k, ts.r1, ts.k1, ts.l1, ts.r2, ts.k2, ts.l2, ts.r3, ts.k3, ts.l3, ts.r4, ts.k4, ts.l4, ts.r5, ts.k5, ts.l5, ts.r6, ts.k6, ts.l6, ts.r7, ts.k7, ts.l7, ts.r8, ts.k8, ts.l8, ts.r9, ts.k9, ts.l9, ts.r10, ts.k10, ts.l10, ts.r11, ts.k11, ts.l11, ts.r12, ts.k12, ts.l12, ts.r13, ts.k13, ts.l13, ts.r14, ts.k14, ts.l14, ts.r15, ts.k15, ts.l15, ts.r16, ts.k16, ts.l16, ts.r17, ts.k17, ts.l17, ts.r18, ts.k18, ts.l18, ts.r19, ts.k19, ts.l19, ts.r20, ts.k20, ts.l20, ti, ho, x1, x2, x3, q1, q2, vo, q4]
            simp (disch := omega) only [i_lit, i_neg, i_add, i_sub, i_mul, i_ofNat, i_div, i_le, i_lt, i_eq, i_ix, i_inb, i_max, i_min, e_rem, j_lit, j_i, Int.reduceToNat, Int.reduceAdd, Int.reduceSub, Int.reduceMul, Int.reduceNeg, Int.reduceLT, Int.reduceLE, Int.reduceEq, gd_t, gd_T, bd_t, lh_t, on_s, on_n, ec_l, ec_r, if_true, if_false, true_and, and_true, false_and, and_false, true_or, or_true, false_or, or_false, Bool.false_eq_true, b2i_0, b2i_1, bl_0, bl_1, bl_b2, not_true_eq_false, not_false_eq_true, q1, q2, q4] at hk'
            exact hk' _ _ h4 h5 rfl
  obtain ⟨r, h1, h2⟩ := key
  rw [h1, h2]
