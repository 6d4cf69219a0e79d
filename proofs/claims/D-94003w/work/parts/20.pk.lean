/-! PURE K: what a station knows -/
set_option maxRecDepth 100000
theorem looks_k4 {o : Nat → Nat} {t : Nat} {h : AH} {x : Nat} {τ : Nat → Int} {υ : Nat → Int64} {e : Nat → Nat} {el : Nat → Nat → Nat} {lw : Nat} (c : CrP o t h x τ υ e el lw) {z : Nat} (cs : CS h z) (hz : hR h z 0 = some x) (ow : OW o z) (ht1 : t ≠ 1) {s y : Int} (hs : 0 ≤ s ∧ s < τ 0) (hy : 0 ≤ y ∧ y ≤ 3000) : ∃ h', F_X1_looks_k4 h z (z + 271) (iI s) (iI y) = some h' ∧ tf (fun a => a = z + 273) h h' ∧ ∀ k : Nat, k < 9 → hI h' (z + 273) k = iI (worthS τ false s y (100 + k)) := by
  have hn := c.rg.n
  have ht := c.rg.t
  obtain ⟨k1, k2⟩ := stat_at c hs
  have e16 : 16 + s.toNat = (16 + s).toNat := by omega
  have e8 : 8 + s.toNat = (8 + s).toNat := by omega
  have kl := k2.i1
  have kc := k2.i0
  have kr := c.rg.late s.toNat (by omega)
  rw [e16] at kl kr
  rw [e8] at kc
  have own := run_at c cs hz (s := s) (y := y - 1) hs (by omega)
  have since := run_since c cs hz (s := s) (y := y) hs (by omega)
  have ro := seen_rng c.rg (bt := false) (s := s) (y := y - 1) (by omega) (by omega) (by intro q; cases q)
  have key : Ok1 (F_X1_looks_k4 h z (z + 271) (iI s) (iI y)) (fun h' => tf (fun a => a = z + 273) h h' ∧ ∀ k : Nat, k < 9 → hI h' (z + 273) k = iI (worthS τ false s y (100 + k))) := by
    unfold F_X1_looks_k4 G_X1_looks_k4_44
    simp (disch := omega) only [i_lit, i_neg, i_add, i_sub, i_mul, i_ofNat, i_div, i_le, i_lt, i_eq, i_ix, i_inb, i_max, i_min, e_rem, j_lit, j_i, Int.reduceToNat, Int.reduceAdd, Int.reduceSub, Int.reduceMul, Int.reduceNeg, Int.reduceLT, Int.reduceLE, Int.reduceEq, gd_t, gd_T, bd_t, lh_t, on_s, on_n, ec_l, ec_r, if_true, if_false, true_and, and_true, false_and, and_false, true_or, or_true, false_or, or_false, Bool.false_eq_true, b2i_0, b2i_1, bl_0, bl_1, bl_b2, not_true_eq_false, not_false_eq_true, cs.k, hz, c.k, c.r0, c.a0.k, k1, k2.k, cs.k271, own]
    refine lp_ok (fun st k => ∃ o b bm rr ff : Int, st = (h, z, z + 271, iI s, iI y, el 0 s.toNat, iI (seenS τ false s (y - 1)), iI (if b = -1 then 100 else b), iI bm, iI rr, iI ff, iI o) ∧ 0 ≤ o ∧ o ≤ τ 0 ∧ k = (τ 0 - o).toNat ∧ (-1 ≤ b ∧ b ≤ 99) ∧ (-1 ≤ bm ∧ bm ≤ 99) ∧ (b = -1 ↔ bm = -1) ∧ (0 ≤ rr ∧ rr ≤ o) ∧ (0 ≤ ff ∧ ff ≤ o) ∧ itr (leastF τ false s y false) (τ 0 - o).toNat o.toNat b = itr (leastF τ false s y false) (τ 0).toNat 0 (-1) ∧ itr (leastF τ false s y true) (τ 0 - o).toNat o.toNat bm = itr (leastF τ false s y true) (τ 0).toNat 0 (-1) ∧ itr (movedF τ false s y true) (τ 0 - o).toNat o.toNat rr = movedS τ false s y true ∧ itr (movedF τ false s y false) (τ 0 - o).toNat o.toNat ff = movedS τ false s y false) ?_ fuel (τ 0).toNat _ ⟨0, -1, -1, 0, 0, rfl, by omega, by omega, by simp, by omega, by omega, by omega, by omega, by omega, by simp, by simp, by simp [movedS], by simp [movedS]⟩ (lt_fuel (by omega))
    rintro self st k ⟨o, b, bm, rr, ff, rfl, h1, h2, rfl, h4, h5, h6, h7, h8, i1, i2, i3, i4⟩ ih
    unfold L_X1_looks_k4_44 B_X1_looks_k4_44
    by_cases ho : τ 0 ≤ o
    · rw [show (τ 0 - o).toNat = 0 by omega] at i1 i2 i3 i4
      have j1 : b = itr (leastF τ false s y false) (τ 0).toNat 0 (-1) := i1
      have j2 : bm = itr (leastF τ false s y true) (τ 0).toNat 0 (-1) := i2
      have j3 : rr = movedS τ false s y true := i3
      have j4 : ff = movedS τ false s y false := i4
      have l1 : leastS τ false s y false = if b = -1 then seenS τ false s (y - 1) else b := by unfold leastS; rw [← j1]
      have l2 : leastS τ false s y true = if bm = -1 then seenS τ false s (y - 1) else bm := by unfold leastS; rw [← j2]
      unfold B_X1_looks_k4_161 B_X1_looks_k4_187
      have sinceX : ∀ h1, tf (fun a => a = z + 273) h h1 → F_X4_since h1 (z + 271) (iI s) (iI y) = some (iI (sinceS τ false s y)) := by
        intro h1 t1
        exact run_since (c.tf t1 (fun a q => by subst q; exact ⟨ow _ (by omega), by rw [cs.k273]; unfold imK; omega, by rw [cs.k273]; omega⟩) ht1) (cs.tf t1) (by rw [t1.R]; exact hz) hs (by omega)
      have ne273 : el 0 s.toNat ≠ z + 273 := by
        intro q
        have := k2.k
        rw [q, cs.k273] at this
        omega
      have e7 : (0 ≤ y / 24 ∧ y / 24 < 2147483648) := by omega
      have kcX : ∀ g : AH, tf (fun a => a = z + 273) h g → hI g (el 0 s.toNat) 0 = iI (τ (8 + s).toNat) := fun g tg => by rw [tg.I ne273]; exact kc
      have kkX : ∀ g : AH, tf (fun a => a = z + 273) h g → hK g (el 0 s.toNat) = 9 := fun g tg => by rw [tg.K]; exact k2.k
      have fin : ∀ (v1 v2 : Int) (g : AH), v1 = leastS τ false s y false → v2 = leastS τ false s y true → tf (fun a => a = z + 273) h g → hI g (z + 273) 0 = iI (seenS τ false s (y - 1)) → hI g (z + 273) 1 = iI v1 → Ok1 (B_X1_looks_k4_206 g z (z + 271) (iI s) (iI y) (el 0 s.toNat) (iI rr) (iI ff) (iI v2) (iI 2) (z + 273)) (fun h' => tf (fun a => a = z + 273) h h' ∧ ∀ k : Nat, k < 9 → hI h' (z + 273) k = iI (worthS τ false s y (100 + k))) := by
        clear i1 i2 i3 i4 h4 h5 h6 h7 h8 own since
        intro v1 v2 g w1 w2 T0 u0 u1
        unfold B_X1_looks_k4_206
        have cs0 := cs.tf T0
        simp (disch := omega) only [i_lit, i_neg, i_add, i_sub, i_mul, i_ofNat, i_div, i_le, i_lt, i_eq, i_ix, i_inb, i_max, i_min, e_rem, j_lit, j_i, Int.reduceToNat, Int.reduceAdd, Int.reduceSub, Int.reduceMul, Int.reduceNeg, Int.reduceLT, Int.reduceLE, Int.reduceEq, gd_t, gd_T, bd_t, on_s, on_n, ec_l, ec_r, if_true, if_false, true_and, and_true, false_and, and_false, true_or, or_true, false_or, or_false, Bool.false_eq_true, b2i_0, b2i_1, bl_0, bl_1, bl_b2, not_true_eq_false, not_false_eq_true, cs0.k273, cs0.l273]
        refine fw_ T0 rfl (fun g2 T2 u2 d2 => ?_)
        have cs2 := cs.tf T2
        simp (disch := omega) only [i_lit, i_neg, i_add, i_sub, i_mul, i_ofNat, i_div, i_le, i_lt, i_eq, i_ix, i_inb, i_max, i_min, e_rem, j_lit, j_i, Int.reduceToNat, Int.reduceAdd, Int.reduceSub, Int.reduceMul, Int.reduceNeg, Int.reduceLT, Int.reduceLE, Int.reduceEq, gd_t, gd_T, bd_t, on_s, on_n, ec_l, ec_r, if_true, if_false, true_and, and_true, false_and, and_false, true_or, or_true, false_or, or_false, Bool.false_eq_true, b2i_0, b2i_1, bl_0, bl_1, bl_b2, not_true_eq_false, not_false_eq_true, cs2.k, cs2.r273, cs2.k273, cs2.l273, kcX g2 T2, kkX g2 T2]
        refine fw_ T2 rfl (fun g3 T3 u3 d3 => ?_)
        have cs3 := cs.tf T3
        simp (disch := omega) only [i_lit, i_neg, i_add, i_sub, i_mul, i_ofNat, i_div, i_le, i_lt, i_eq, i_ix, i_inb, i_max, i_min, e_rem, j_lit, j_i, Int.reduceToNat, Int.reduceAdd, Int.reduceSub, Int.reduceMul, Int.reduceNeg, Int.reduceLT, Int.reduceLE, Int.reduceEq, gd_t, gd_T, bd_t, on_s, on_n, ec_l, ec_r, if_true, if_false, true_and, and_true, false_and, and_false, true_or, or_true, false_or, or_false, Bool.false_eq_true, b2i_0, b2i_1, bl_0, bl_1, bl_b2, not_true_eq_false, not_false_eq_true, cs3.k, cs3.r273, cs3.k273, cs3.l273]
        refine fw_ T3 rfl (fun g4 T4 u4 d4 => ?_)
        have cs4 := cs.tf T4
        simp (disch := omega) only [i_lit, i_neg, i_add, i_sub, i_mul, i_ofNat, i_div, i_le, i_lt, i_eq, i_ix, i_inb, i_max, i_min, e_rem, j_lit, j_i, Int.reduceToNat, Int.reduceAdd, Int.reduceSub, Int.reduceMul, Int.reduceNeg, Int.reduceLT, Int.reduceLE, Int.reduceEq, gd_t, gd_T, bd_t, on_s, on_n, ec_l, ec_r, if_true, if_false, true_and, and_true, false_and, and_false, true_or, or_true, false_or, or_false, Bool.false_eq_true, b2i_0, b2i_1, bl_0, bl_1, bl_b2, not_true_eq_false, not_false_eq_true, cs4.k, cs4.r273, cs4.k273, cs4.l273]
        refine fw_ T4 rfl (fun g5 T5 u5 d5 => ?_)
        have cs5 := cs.tf T5
        simp (disch := omega) only [i_lit, i_neg, i_add, i_sub, i_mul, i_ofNat, i_div, i_le, i_lt, i_eq, i_ix, i_inb, i_max, i_min, e_rem, j_lit, j_i, Int.reduceToNat, Int.reduceAdd, Int.reduceSub, Int.reduceMul, Int.reduceNeg, Int.reduceLT, Int.reduceLE, Int.reduceEq, gd_t, gd_T, bd_t, on_s, on_n, ec_l, ec_r, if_true, if_false, true_and, and_true, false_and, and_false, true_or, or_true, false_or, or_false, Bool.false_eq_true, b2i_0, b2i_1, bl_0, bl_1, bl_b2, not_true_eq_false, not_false_eq_true, cs5.k, cs5.r273, cs5.k273, cs5.l273, cs5.k271, sinceX g5 T5]
        refine fw_ T5 rfl (fun g6 T6 u6 d6 => ?_)
        have cs6 := cs.tf T6
        simp (disch := omega) only [i_lit, i_neg, i_add, i_sub, i_mul, i_ofNat, i_div, i_le, i_lt, i_eq, i_ix, i_inb, i_max, i_min, e_rem, j_lit, j_i, Int.reduceToNat, Int.reduceAdd, Int.reduceSub, Int.reduceMul, Int.reduceNeg, Int.reduceLT, Int.reduceLE, Int.reduceEq, gd_t, gd_T, bd_t, on_s, on_n, ec_l, ec_r, if_true, if_false, true_and, and_true, false_and, and_false, true_or, or_true, false_or, or_false, Bool.false_eq_true, b2i_0, b2i_1, bl_0, bl_1, bl_b2, not_true_eq_false, not_false_eq_true, cs6.k, cs6.r273, cs6.k273, cs6.l273]
        refine fw_ T6 rfl (fun g7 T7 u7 d7 => ?_)
        have cs7 := cs.tf T7
        simp (disch := omega) only [i_lit, i_neg, i_add, i_sub, i_mul, i_ofNat, i_div, i_le, i_lt, i_eq, i_ix, i_inb, i_max, i_min, e_rem, j_lit, j_i, Int.reduceToNat, Int.reduceAdd, Int.reduceSub, Int.reduceMul, Int.reduceNeg, Int.reduceLT, Int.reduceLE, Int.reduceEq, gd_t, gd_T, bd_t, on_s, on_n, ec_l, ec_r, if_true, if_false, true_and, and_true, false_and, and_false, true_or, or_true, false_or, or_false, Bool.false_eq_true, b2i_0, b2i_1, bl_0, bl_1, bl_b2, not_true_eq_false, not_false_eq_true, cs7.k, cs7.r273, cs7.k273, cs7.l273]
        refine fw_ T7 rfl (fun g8 T8 u8 d8 => ?_)
        refine Ok1.some ⟨T8, ?_⟩
        intro k hk
        rcases (show k = 0 ∨ k = 1 ∨ k = 2 ∨ k = 3 ∨ k = 4 ∨ k = 5 ∨ k = 6 ∨ k = 7 ∨ k = 8 by omega) with rfl | rfl | rfl | rfl | rfl | rfl | rfl | rfl | rfl
        · rw [d8 0 (by omega), d7 0 (by omega), d6 0 (by omega), d5 0 (by omega), d4 0 (by omega), d3 0 (by omega), d2 0 (by omega), u0]; rfl
        · rw [d8 1 (by omega), d7 1 (by omega), d6 1 (by omega), d5 1 (by omega), d4 1 (by omega), d3 1 (by omega), d2 1 (by omega), u1, w1]; rfl
        · rw [d8 2 (by omega), d7 2 (by omega), d6 2 (by omega), d5 2 (by omega), d4 2 (by omega), d3 2 (by omega), u2, w2]; rfl
        · rw [d8 3 (by omega), d7 3 (by omega), d6 3 (by omega), d5 3 (by omega), d4 3 (by omega), u3]; rfl
        · rw [d8 4 (by omega), d7 4 (by omega), d6 4 (by omega), d5 4 (by omega), u4]; rfl
        · rw [d8 5 (by omega), d7 5 (by omega), d6 5 (by omega), u5]; rfl
        · rw [d8 6 (by omega), d7 6 (by omega), u6]; rfl
        · rw [d8 7 (by omega), u7, j3]; rfl
        · rw [u8, j4]; rfl
      by_cases q : b = -1
      · have q2 := h6.1 q
        rw [if_pos q] at l1
        rw [if_pos q2] at l2
        simp (disch := omega) only [i_lit, i_neg, i_add, i_sub, i_mul, i_ofNat, i_div, i_le, i_lt, i_eq, i_ix, i_inb, i_max, i_min, e_rem, j_lit, j_i, Int.reduceToNat, Int.reduceAdd, Int.reduceSub, Int.reduceMul, Int.reduceNeg, Int.reduceLT, Int.reduceLE, Int.reduceEq, gd_t, gd_T, bd_t, on_s, on_n, ec_l, ec_r, if_true, if_false, true_and, and_true, false_and, and_false, true_or, or_true, false_or, or_false, Bool.false_eq_true, b2i_0, b2i_1, bl_0, bl_1, bl_b2, not_true_eq_false, not_false_eq_true, cs.k, hz, c.k, many_eq c, ho, q, q2, cs.r273, cs.k273, cs.l273]
        refine fw_ (P := fun a => a = z + 273) tf.rfl rfl (fun g1 T1 u1 d1 => ?_)
        have cs1 := cs.tf T1
        simp (disch := omega) only [i_lit, i_neg, i_add, i_sub, i_mul, i_ofNat, i_div, i_le, i_lt, i_eq, i_ix, i_inb, i_max, i_min, e_rem, j_lit, j_i, Int.reduceToNat, Int.reduceAdd, Int.reduceSub, Int.reduceMul, Int.reduceNeg, Int.reduceLT, Int.reduceLE, Int.reduceEq, gd_t, gd_T, bd_t, on_s, on_n, ec_l, ec_r, if_true, if_false, true_and, and_true, false_and, and_false, true_or, or_true, false_or, or_false, Bool.false_eq_true, b2i_0, b2i_1, bl_0, bl_1, bl_b2, not_true_eq_false, not_false_eq_true, cs1.k, cs1.r273, cs1.k273, cs1.l273, q2]
        refine fw_ T1 rfl (fun g2 T2 u2 d2 => ?_)
        have cs2 := cs.tf T2
        simp (disch := omega) only [i_lit, i_neg, i_add, i_sub, i_mul, i_ofNat, i_div, i_le, i_lt, i_eq, i_ix, i_inb, i_max, i_min, e_rem, j_lit, j_i, Int.reduceToNat, Int.reduceAdd, Int.reduceSub, Int.reduceMul, Int.reduceNeg, Int.reduceLT, Int.reduceLE, Int.reduceEq, gd_t, gd_T, bd_t, on_s, on_n, ec_l, ec_r, if_true, if_false, true_and, and_true, false_and, and_false, true_or, or_true, false_or, or_false, Bool.false_eq_true, b2i_0, b2i_1, bl_0, bl_1, bl_b2, not_true_eq_false, not_false_eq_true, cs2.k, cs2.r273, cs2.k273, cs2.l273, q2]
        exact fin _ _ g2 l1.symm l2.symm T2 (by rw [d2 0 (by omega), u1]) u2
      · have q2 : ¬ bm = -1 := fun w => q (h6.2 w)
        rw [if_neg q] at l1
        rw [if_neg q2] at l2
        simp (disch := omega) only [i_lit, i_neg, i_add, i_sub, i_mul, i_ofNat, i_div, i_le, i_lt, i_eq, i_ix, i_inb, i_max, i_min, e_rem, j_lit, j_i, Int.reduceToNat, Int.reduceAdd, Int.reduceSub, Int.reduceMul, Int.reduceNeg, Int.reduceLT, Int.reduceLE, Int.reduceEq, gd_t, gd_T, bd_t, on_s, on_n, ec_l, ec_r, if_true, if_false, true_and, and_true, false_and, and_false, true_or, or_true, false_or, or_false, Bool.false_eq_true, b2i_0, b2i_1, bl_0, bl_1, bl_b2, not_true_eq_false, not_false_eq_true, cs.k, hz, c.k, many_eq c, ho, q, q2, cs.r273, cs.k273, cs.l273]
        refine fw_ (P := fun a => a = z + 273) tf.rfl rfl (fun g1 T1 u1 d1 => ?_)
        have cs1 := cs.tf T1
        simp (disch := omega) only [i_lit, i_neg, i_add, i_sub, i_mul, i_ofNat, i_div, i_le, i_lt, i_eq, i_ix, i_inb, i_max, i_min, e_rem, j_lit, j_i, Int.reduceToNat, Int.reduceAdd, Int.reduceSub, Int.reduceMul, Int.reduceNeg, Int.reduceLT, Int.reduceLE, Int.reduceEq, gd_t, gd_T, bd_t, on_s, on_n, ec_l, ec_r, if_true, if_false, true_and, and_true, false_and, and_false, true_or, or_true, false_or, or_false, Bool.false_eq_true, b2i_0, b2i_1, bl_0, bl_1, bl_b2, not_true_eq_false, not_false_eq_true, cs1.k, cs1.r273, cs1.k273, cs1.l273, q2]
        refine fw_ T1 rfl (fun g2 T2 u2 d2 => ?_)
        have cs2 := cs.tf T2
        simp (disch := omega) only [i_lit, i_neg, i_add, i_sub, i_mul, i_ofNat, i_div, i_le, i_lt, i_eq, i_ix, i_inb, i_max, i_min, e_rem, j_lit, j_i, Int.reduceToNat, Int.reduceAdd, Int.reduceSub, Int.reduceMul, Int.reduceNeg, Int.reduceLT, Int.reduceLE, Int.reduceEq, gd_t, gd_T, bd_t, on_s, on_n, ec_l, ec_r, if_true, if_false, true_and, and_true, false_and, and_false, true_or, or_true, false_or, or_false, Bool.false_eq_true, b2i_0, b2i_1, bl_0, bl_1, bl_b2, not_true_eq_false, not_false_eq_true, cs2.k, cs2.r273, cs2.k273, cs2.l273, q2]
        exact fin _ _ g2 l1.symm l2.symm T2 (by rw [d2 0 (by omega), u1]) u2
    · have e1 := run_at c cs hz (s := o) (y := y - 1 - τ (16 + s).toNat) (by omega) (by omega)
      have e2 := run_at c cs hz (s := o) (y := y - 1 - τ (16 + s).toNat - 1) (by omega) (by omega)
      have r1 := seen_rng c.rg (bt := false) (s := o) (y := y - 1 - τ (16 + s).toNat) (by omega) (by omega) (by intro q; cases q)
      have r2 := seen_rng c.rg (bt := false) (s := o) (y := y - 1 - τ (16 + s).toNat - 1) (by omega) (by omega) (by intro q; cases q)
      have e3 : y - 2 - τ (16 + s).toNat = y - 1 - τ (16 + s).toNat - 1 := by omega
      have eo : ((o.toNat : Nat) : Int) = o := by omega
      have hk : ∀ b' bm' rr' ff' : Int, (-1 ≤ b' ∧ b' ≤ 99) → (-1 ≤ bm' ∧ bm' ≤ 99) → (b' = -1 ↔ bm' = -1) → (0 ≤ rr' ∧ rr' ≤ o + 1) → (0 ≤ ff' ∧ ff' ≤ o + 1) → leastF τ false s y false o.toNat b = b' → leastF τ false s y true o.toNat bm = bm' → movedF τ false s y true o.toNat rr = rr' → movedF τ false s y false o.toNat ff = ff' → Ok1 (self (h, z, z + 271, iI s, iI y, el 0 s.toNat, iI (seenS τ false s (y - 1)), iI (if b' = -1 then 100 else b'), iI bm', iI rr', iI ff', iI (o + 1))) (fun h' => tf (fun a => a = z + 273) h h' ∧ ∀ k : Nat, k < 9 → hI h' (z + 273) k = iI (worthS τ false s y (100 + k))) := by
        intro b' bm' rr' ff' u1 u2 u3 u4 u5 f1 f2 f3 f4
        refine ih _ (τ 0 - (o + 1)).toNat (by omega) ⟨o + 1, b', bm', rr', ff', rfl, by omega, by omega, rfl, u1, u2, u3, u4, u5, ?_, ?_, ?_, ?_⟩
        · rw [← i1, show (τ 0 - o).toNat = (τ 0 - (o + 1)).toNat + 1 by omega, itr, f1, show (o + 1).toNat = o.toNat + 1 by omega]
        · rw [← i2, show (τ 0 - o).toNat = (τ 0 - (o + 1)).toNat + 1 by omega, itr, f2, show (o + 1).toNat = o.toNat + 1 by omega]
        · rw [← i3, show (τ 0 - o).toNat = (τ 0 - (o + 1)).toNat + 1 by omega, itr, f3, show (o + 1).toNat = o.toNat + 1 by omega]
        · rw [← i4, show (τ 0 - o).toNat = (τ 0 - (o + 1)).toNat + 1 by omega, itr, f4, show (o + 1).toNat = o.toNat + 1 by omega]
      unfold leastF movedF at hk
      rw [eo] at hk
      unfold B_X1_looks_k4_135 B_X1_looks_k4_152 B_X1_looks_k4_155
      by_cases q1 : o = s
      · subst q1
        simp (disch := omega) only [i_lit, i_neg, i_add, i_sub, i_mul, i_ofNat, i_div, i_le, i_lt, i_eq, i_ix, i_inb, i_max, i_min, e_rem, j_lit, j_i, Int.reduceToNat, Int.reduceAdd, Int.reduceSub, Int.reduceMul, Int.reduceNeg, Int.reduceLT, Int.reduceLE, Int.reduceEq, gd_t, gd_T, bd_t, lh_t, on_s, on_n, ec_l, ec_r, if_true, if_false, true_and, and_true, false_and, and_false, true_or, or_true, false_or, or_false, Bool.false_eq_true, b2i_0, b2i_1, bl_0, bl_1, bl_b2, not_true_eq_false, not_false_eq_true, cs.k, hz, c.k, many_eq c, ho]
        simp (disch := omega) only [i_lit, i_neg, i_add, i_sub, i_mul, i_ofNat, i_div, i_le, i_lt, i_eq, i_ix, i_inb, i_max, i_min, e_rem, j_lit, j_i, Int.reduceToNat, Int.reduceAdd, Int.reduceSub, Int.reduceMul, Int.reduceNeg, Int.reduceLT, Int.reduceLE, Int.reduceEq, gd_t, gd_T, bd_t, lh_t, on_s, on_n, ec_l, ec_r, if_true, if_false, true_and, and_true, false_and, and_false, true_or, or_true, false_or, or_false, Bool.false_eq_true, b2i_0, b2i_1, bl_0, bl_1, bl_b2, not_true_eq_false, not_false_eq_true] at hk
        exact hk b bm rr ff h4 h5 h6 (by omega) (by omega) rfl rfl rfl rfl
      · generalize hP : seenS τ false o (y - 1 - τ (16 + s).toNat) = P at hk e1 r1
        generalize hW : seenS τ false o (y - 1 - τ (16 + s).toNat - 1) = W at hk e2 r2
        by_cases p1 : P ≤ W
        · by_cases p2 : W ≤ P
          · simp (disch := omega) only [i_lit, i_neg, i_add, i_sub, i_mul, i_ofNat, i_div, i_le, i_lt, i_eq, i_ix, i_inb, i_max, i_min, e_rem, j_lit, j_i, Int.reduceToNat, Int.reduceAdd, Int.reduceSub, Int.reduceMul, Int.reduceNeg, Int.reduceLT, Int.reduceLE, Int.reduceEq, gd_t, gd_T, bd_t, lh_t, on_s, on_n, ec_l, ec_r, if_true, if_false, true_and, and_true, false_and, and_false, true_or, or_true, false_or, or_false, Bool.false_eq_true, b2i_0, b2i_1, bl_0, bl_1, bl_b2, not_true_eq_false, not_false_eq_true, cs.k, hz, c.k, many_eq c, ho, q1, k2.k, cs.k271, kl, e1, e3, e2, p1, p2]
            simp (disch := omega) only [i_lit, i_neg, i_add, i_sub, i_mul, i_ofNat, i_div, i_le, i_lt, i_eq, i_ix, i_inb, i_max, i_min, e_rem, j_lit, j_i, Int.reduceToNat, Int.reduceAdd, Int.reduceSub, Int.reduceMul, Int.reduceNeg, Int.reduceLT, Int.reduceLE, Int.reduceEq, gd_t, gd_T, bd_t, lh_t, on_s, on_n, ec_l, ec_r, if_true, if_false, true_and, and_true, false_and, and_false, true_or, or_true, false_or, or_false, Bool.false_eq_true, b2i_0, b2i_1, bl_0, bl_1, bl_b2, not_true_eq_false, not_false_eq_true, q1, p1, p2] at hk
            have := hk (if b = -1 then P else if b ≤ P then b else P) (if bm = -1 then P else if P ≤ bm then bm else P) _ _ (by split <;> (try split) <;> omega) (by split <;> (try split) <;> omega) (by split <;> split <;> (try split) <;> (try split) <;> omega) (by omega) (by omega) rfl rfl rfl rfl
            rw [show min (if b = -1 then 100 else b) P = (if (if b = -1 then P else if b ≤ P then b else P) = -1 then 100 else (if b = -1 then P else if b ≤ P then b else P)) by split <;> split <;> (try split) <;> (try split) <;> omega, show max bm P = (if bm = -1 then P else if P ≤ bm then bm else P) by split <;> (try split) <;> omega]
            simpa using this
          · simp (disch := omega) only [i_lit, i_neg, i_add, i_sub, i_mul, i_ofNat, i_div, i_le, i_lt, i_eq, i_ix, i_inb, i_max, i_min, e_rem, j_lit, j_i, Int.reduceToNat, Int.reduceAdd, Int.reduceSub, Int.reduceMul, Int.reduceNeg, Int.reduceLT, Int.reduceLE, Int.reduceEq, gd_t, gd_T, bd_t, lh_t, on_s, on_n, ec_l, ec_r, if_true, if_false, true_and, and_true, false_and, and_false, true_or, or_true, false_or, or_false, Bool.false_eq_true, b2i_0, b2i_1, bl_0, bl_1, bl_b2, not_true_eq_false, not_false_eq_true, cs.k, hz, c.k, many_eq c, ho, q1, k2.k, cs.k271, kl, e1, e3, e2, p1, p2]
            simp (disch := omega) only [i_lit, i_neg, i_add, i_sub, i_mul, i_ofNat, i_div, i_le, i_lt, i_eq, i_ix, i_inb, i_max, i_min, e_rem, j_lit, j_i, Int.reduceToNat, Int.reduceAdd, Int.reduceSub, Int.reduceMul, Int.reduceNeg, Int.reduceLT, Int.reduceLE, Int.reduceEq, gd_t, gd_T, bd_t, lh_t, on_s, on_n, ec_l, ec_r, if_true, if_false, true_and, and_true, false_and, and_false, true_or, or_true, false_or, or_false, Bool.false_eq_true, b2i_0, b2i_1, bl_0, bl_1, bl_b2, not_true_eq_false, not_false_eq_true, q1, p1, p2] at hk
            have := hk (if b = -1 then P else if b ≤ P then b else P) (if bm = -1 then P else if P ≤ bm then bm else P) _ _ (by split <;> (try split) <;> omega) (by split <;> (try split) <;> omega) (by split <;> split <;> (try split) <;> (try split) <;> omega) (by omega) (by omega) rfl rfl rfl rfl
            rw [show min (if b = -1 then 100 else b) P = (if (if b = -1 then P else if b ≤ P then b else P) = -1 then 100 else (if b = -1 then P else if b ≤ P then b else P)) by split <;> split <;> (try split) <;> (try split) <;> omega, show max bm P = (if bm = -1 then P else if P ≤ bm then bm else P) by split <;> (try split) <;> omega]
            simpa using this
        · by_cases p2 : W ≤ P
          · simp (disch := omega) only [i_lit, i_neg, i_add, i_sub, i_mul, i_ofNat, i_div, i_le, i_lt, i_eq, i_ix, i_inb, i_max, i_min, e_rem, j_lit, j_i, Int.reduceToNat, Int.reduceAdd, Int.reduceSub, Int.reduceMul, Int.reduceNeg, Int.reduceLT, Int.reduceLE, Int.reduceEq, gd_t, gd_T, bd_t, lh_t, on_s, on_n, ec_l, ec_r, if_true, if_false, true_and, and_true, false_and, and_false, true_or, or_true, false_or, or_false, Bool.false_eq_true, b2i_0, b2i_1, bl_0, bl_1, bl_b2, not_true_eq_false, not_false_eq_true, cs.k, hz, c.k, many_eq c, ho, q1, k2.k, cs.k271, kl, e1, e3, e2, p1, p2]
            simp (disch := omega) only [i_lit, i_neg, i_add, i_sub, i_mul, i_ofNat, i_div, i_le, i_lt, i_eq, i_ix, i_inb, i_max, i_min, e_rem, j_lit, j_i, Int.reduceToNat, Int.reduceAdd, Int.reduceSub, Int.reduceMul, Int.reduceNeg, Int.reduceLT, Int.reduceLE, Int.reduceEq, gd_t, gd_T, bd_t, lh_t, on_s, on_n, ec_l, ec_r, if_true, if_false, true_and, and_true, false_and, and_false, true_or, or_true, false_or, or_false, Bool.false_eq_true, b2i_0, b2i_1, bl_0, bl_1, bl_b2, not_true_eq_false, not_false_eq_true, q1, p1, p2] at hk
            have := hk (if b = -1 then P else if b ≤ P then b else P) (if bm = -1 then P else if P ≤ bm then bm else P) _ _ (by split <;> (try split) <;> omega) (by split <;> (try split) <;> omega) (by split <;> split <;> (try split) <;> (try split) <;> omega) (by omega) (by omega) rfl rfl rfl rfl
            rw [show min (if b = -1 then 100 else b) P = (if (if b = -1 then P else if b ≤ P then b else P) = -1 then 100 else (if b = -1 then P else if b ≤ P then b else P)) by split <;> split <;> (try split) <;> (try split) <;> omega, show max bm P = (if bm = -1 then P else if P ≤ bm then bm else P) by split <;> (try split) <;> omega]
            simpa using this
          · omega
  obtain ⟨r, h1, h2⟩ := key
  exact ⟨r, h1, h2⟩
