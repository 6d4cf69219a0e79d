/-! PURE N: wishes of rules, both sides -/
set_option maxRecDepth 100000
theorem wish_k4 {o : Nat → Nat} {t : Nat} {g : AH} {x : Nat} {τ : Nat → Int} {υ : Nat → Int64} {e : Nat → Nat} {el : Nat → Nat → Nat} {lw : Nat} (c : CrP o t g x τ υ e el lw) {z : Nat} (cs : CS g z) (hz : hR g z 0 = some x) {s y : Int} (hs : 0 ≤ s ∧ s < τ 0) (hy : 0 ≤ y ∧ y ≤ 3000) (hf3 : ∀ k : Nat, k < 9 → hI g (z + 273) k = iI (worthS τ false s y (100 + k))) :
    ∃ w : Int, (-300 ≤ w ∧ w ≤ 300) ∧ (∀ Q : Int32 × AH → Prop, Ok1 (B_X1_sets_k4_111 g z (el 0 s.toNat) (iI (seenS τ false s (y - 1))) (iI w)) Q → Ok1 (G_X1_sets_k4_38 g z (el 0 s.toNat) (iI (seenS τ false s (y - 1))) (iI (seenS τ false s (y - 1))) (iI 0)) Q) ∧
      ∀ (hT : AH) (m : Nat), TN hT m τ → hI hT m 23 = b2 (false = true) → Ok1 (F_X8_wish hT m (iI s) (iI y)) (fun r => r.1 = iI w ∧ tf (fun a => a = m + 9) hT r.2) := by
  have hn := c.rg.n
  have ht := c.rg.t
  obtain ⟨k1, k2⟩ := stat_at c hs
  obtain ⟨rl, r1, er, elr, pos, R1, R2, -, -, R5, R6, R7⟩ := k2.r
  have own := seen_rng c.rg (bt := false) (s := s) (y := y - 1) (by omega) (by omega) (by intro q; cases q)
  have lst := least_rng c.rg (bt := false) (s := s) (y := y) hs (by omega) (by intro q; cases q) false
  have sr : SR τ false s y := SR.of c.rg hs (by omega) (by intro q; cases q)
  have hB : 125 + 440 * s.toNat = (125 + 440 * s).toNat := by omega
  generalize hσ : (fun i => τ (125 + 440 * s.toNat + i)) = σ at R1 R2 R6 R7
  have hσ2 : ∀ i, σ i = τ (125 + 440 * s.toNat + i) := fun i => by rw [← hσ]
  have hσ0 := hσ2 0
  have hgi := c.rg.i
  have gσ : ∀ i, i31 (σ i) := fun i => by rw [hσ2]; exact hgi _
  have hp0 := R1.p
  have core : ∀ (d r : Nat), (r : Int) + d = σ 0 → ∃ w : Int, (-300 ≤ w ∧ w ≤ 300) ∧ (∀ (K : Nat) (Q : Int32 × AH → Prop), Ok1 (B_X1_sets_k4_111 g z (el 0 s.toNat) (iI (seenS τ false s (y - 1))) (iI w)) Q → Ok1 (lp (L_X1_sets_k4_38 g) (K + d + 1) (g, z, el 0 s.toNat, iI (seenS τ false s (y - 1)), iI (seenS τ false s (y - 1)), iI r)) Q) ∧
      ∀ (h0 hT : AH) (m K : Nat), TN hT m τ → hI hT m 23 = b2 (false = true) → Ok1 (lp (L_X8_wish_24 h0) (K + d + 1) (hT, m, iI s, iI y, iI (seenS τ false s (y - 1)), iI (125 + 440 * s + pos r), iI r)) (fun r => r.1 = iI w ∧ tf (fun a => a = m + 9) hT r.2) := by
    intro d
    induction d with
    | zero =>
      intro r hr
      refine ⟨seenS τ false s (y - 1), by omega, ?_, ?_⟩
      · intro K Q hQ
        rw [lp]
        generalize lp (L_X1_sets_k4_38 g) (K + 0) = self
        unfold L_X1_sets_k4_38 B_X1_sets_k4_38
        have e1 : (σ 0 ≤ (r : Int)) = True := eq_true (by omega)
        simp (disch := omega) only [i_lit, i_neg, i_add, i_sub, i_mul, i_ofNat, i_div, i_le, i_lt, i_eq, i_ix, i_inb, i_max, i_min, e_rem, j_lit, j_i, Int.reduceToNat, Int.reduceAdd, Int.reduceSub, Int.reduceMul, Int.reduceNeg, Int.reduceLT, Int.reduceLE, Int.reduceEq, gd_t, gd_T, bd_t, lh_t, on_s, on_n, ec_l, ec_r, if_true, if_false, true_and, and_true, false_and, and_false, true_or, or_true, false_or, or_false, Bool.false_eq_true, b2i_0, b2i_1, bl_0, bl_1, bl_b2, not_true_eq_false, not_false_eq_true, k2.k, r1, R1.k, size_eq R1, e1]
        exact hQ
      · intro h0 hT m K tn hb
        have ts := tn.s
        have ti := tn.i
        rw [lp]
        generalize lp (L_X8_wish_24 h0) (K + 0) = self
        unfold L_X8_wish_24 B_X8_wish_24 B_X8_wish_169
        have e2 : (125 + 440 * s).toNat = 125 + 440 * s.toNat + 0 := by omega
        have e1 : (σ 0 ≤ (r : Int)) = True := eq_true (by omega)
        simp (disch := omega) only [i_lit, i_neg, i_add, i_sub, i_mul, i_ofNat, i_div, i_le, i_lt, i_eq, i_ix, i_inb, i_max, i_min, e_rem, j_lit, j_i, Int.reduceToNat, Int.reduceAdd, Int.reduceSub, Int.reduceMul, Int.reduceNeg, Int.reduceLT, Int.reduceLE, Int.reduceEq, gd_t, gd_T, bd_t, lh_t, on_s, on_n, ec_l, ec_r, if_true, if_false, true_and, and_true, false_and, and_false, true_or, or_true, false_or, or_false, Bool.false_eq_true, b2i_0, b2i_1, bl_0, bl_1, bl_b2, not_true_eq_false, not_false_eq_true, ts.k, ts.r1, ts.k1, ts.l1, ts.r2, ts.k2, ts.l2, ts.r3, ts.k3, ts.l3, ts.r4, ts.k4, ts.l4, ts.r5, ts.k5, ts.l5, ts.r6, ts.k6, ts.l6, ts.r7, ts.k7, ts.l7, ts.r8, ts.k8, ts.l8, ts.r9, ts.k9, ts.l9, ts.r10, ts.k10, ts.l10, ts.r11, ts.k11, ts.l11, ts.r12, ts.k12, ts.l12, ts.r13, ts.k13, ts.l13, ts.r14, ts.k14, ts.l14, ts.r15, ts.k15, ts.l15, ts.r16, ts.k16, ts.l16, ts.r17, ts.k17, ts.l17, ts.r18, ts.k18, ts.l18, ts.r19, ts.k19, ts.l19, ts.r20, ts.k20, ts.l20, ti, e2, ← hσ2, e1]
        exact Ok1.some ⟨rfl, tf.rfl⟩
    | succ d ih =>
      intro r hr
      obtain ⟨q1, q2, ⟨mv, q3, q4⟩, q5, q6, q7⟩ := R7 r (by omega)
      have q8 := R6 (r + 1) (by omega)
      have q9 := get_eq R1 (i := (r : Int)) (by omega) (by rw [show ((r : Int)).toNat = r by omega]; exact q1)
      have e1 : (σ 0 ≤ (r : Int)) = False := eq_false (by omega)
      have e2 : (125 + 440 * s).toNat = 125 + 440 * s.toNat + 0 := by omega
      have e3 : (125 + 440 * s + ((pos r : Nat) : Int) + 2).toNat = 125 + 440 * s.toNat + (pos r + 2) := by omega
      have g2 := gσ (pos r + 2)
      -- whether the rule holds, on both sides
      have hold : ∃ b : Bool, F_X21_holds g (elr r) (z + 273) = some (b2 (b = true)) ∧ ∀ (hT : AH) (m : Nat), TN hT m τ → hI hT m 23 = b2 (false = true) → Ok1 (F_X8_isSo hT m (iI (125 + 440 * s + pos r + 3)) (iI (σ (pos r + 2))) (iI s) (iI y)) (fun u => u.1 = b2 (b = true) ∧ tf (fun a => a = m + 9) hT u.2) := by
        rcases q7 with ⟨u1, u2⟩ | ⟨u1, cc, u2, u3⟩
        · refine ⟨true, ?_, ?_⟩
          · unfold F_X21_holds B_X21_holds_20 B_X21_holds_25
            simp (disch := omega) only [i_lit, i_neg, i_add, i_sub, i_mul, i_ofNat, i_div, i_le, i_lt, i_eq, i_ix, i_inb, i_max, i_min, e_rem, j_lit, j_i, Int.reduceToNat, Int.reduceAdd, Int.reduceSub, Int.reduceMul, Int.reduceNeg, Int.reduceLT, Int.reduceLE, Int.reduceEq, gd_t, gd_T, bd_t, lh_t, on_s, on_n, ec_l, ec_r, if_true, if_false, true_and, and_true, false_and, and_false, true_or, or_true, false_or, or_false, Bool.false_eq_true, b2i_0, b2i_1, bl_0, bl_1, bl_b2, not_true_eq_false, not_false_eq_true, q2, u2]
            rfl
          · intro hT m tn hb
            rw [u1, isSo_none tn (by omega)]
            exact Ok1.some ⟨rfl, tf.rfl⟩
        · obtain ⟨v, v1, v2, v3⟩ := isSo_run (B := 125 + 440 * s.toNat) sr cs.k273 cs.l273 hf3 hσ2 u3 (by omega) (by omega)
          rw [show ((125 + 440 * s.toNat : Nat) : Int) + ((pos r + 3 : Nat) : Int) = 125 + 440 * s + pos r + 3 by omega, show ((pos (r + 1) : Nat) : Int) - ((pos r + 3 : Nat) : Int) = σ (pos r + 2) by omega] at v3
          rcases v2 with v2 | v2
          · subst v2
            refine ⟨false, ?_, v3⟩
            unfold F_X21_holds B_X21_holds_20 B_X21_holds_25
            simp (disch := omega) only [i_lit, i_neg, i_add, i_sub, i_mul, i_ofNat, i_div, i_le, i_lt, i_eq, i_ix, i_inb, i_max, i_min, e_rem, j_lit, j_i, Int.reduceToNat, Int.reduceAdd, Int.reduceSub, Int.reduceMul, Int.reduceNeg, Int.reduceLT, Int.reduceLE, Int.reduceEq, gd_t, gd_T, bd_t, lh_t, on_s, on_n, ec_l, ec_r, if_true, if_false, true_and, and_true, false_and, and_false, true_or, or_true, false_or, or_false, Bool.false_eq_true, b2i_0, b2i_1, bl_0, bl_1, bl_b2, not_true_eq_false, not_false_eq_true, q2, u2, v1]
            rfl
          · subst v2
            refine ⟨true, ?_, v3⟩
            unfold F_X21_holds B_X21_holds_20 B_X21_holds_25
            simp (disch := omega) only [i_lit, i_neg, i_add, i_sub, i_mul, i_ofNat, i_div, i_le, i_lt, i_eq, i_ix, i_inb, i_max, i_min, e_rem, j_lit, j_i, Int.reduceToNat, Int.reduceAdd, Int.reduceSub, Int.reduceMul, Int.reduceNeg, Int.reduceLT, Int.reduceLE, Int.reduceEq, gd_t, gd_T, bd_t, lh_t, on_s, on_n, ec_l, ec_r, if_true, if_false, true_and, and_true, false_and, and_false, true_or, or_true, false_or, or_false, Bool.false_eq_true, b2i_0, b2i_1, bl_0, bl_1, bl_b2, not_true_eq_false, not_false_eq_true, q2, u2, v1]
            rfl
      obtain ⟨b, b1, b3⟩ := hold
      cases b with
      | false =>
        obtain ⟨w, w1, w2, w3⟩ := ih (r + 1) (by omega)
        refine ⟨w, w1, ?_, ?_⟩
        · intro K Q hQ
          have := w2 K Q hQ
          rw [show K + (d + 1) + 1 = (K + d + 1) + 1 by omega, lp]
          generalize lp (L_X1_sets_k4_38 g) (K + d + 1) = self at this ⊢
          unfold L_X1_sets_k4_38 B_X1_sets_k4_38
          simp (disch := omega) only [i_lit, i_neg, i_add, i_sub, i_mul, i_ofNat, i_div, i_le, i_lt, i_eq, i_ix, i_inb, i_max, i_min, e_rem, j_lit, j_i, Int.reduceToNat, Int.reduceAdd, Int.reduceSub, Int.reduceMul, Int.reduceNeg, Int.reduceLT, Int.reduceLE, Int.reduceEq, gd_t, gd_T, bd_t, lh_t, on_s, on_n, ec_l, ec_r, if_true, if_false, true_and, and_true, false_and, and_false, true_or, or_true, false_or, or_false, Bool.false_eq_true, b2i_0, b2i_1, bl_0, bl_1, bl_b2, not_true_eq_false, not_false_eq_true, k2.k, r1, R1.k, size_eq R1, e1, q9, q2, cs.k, cs.r273, b1]
          exact this
        · intro h0 hT m K tn hb
          have ts := tn.s
          have ti := tn.i
          obtain ⟨⟨u0, h1⟩, u1, u2, u3⟩ := b3 hT m tn hb
          have u2 : u0 = b2 (false = true) := u2
          have u3 : tf (fun a => a = m + 9) hT h1 := u3
          subst u2
          have := w3 h0 h1 m K (tn.tf u3 (by omega)) (by rw [u3.I (by omega)]; exact hb)
          rw [show K + (d + 1) + 1 = (K + d + 1) + 1 by omega, lp]
          generalize lp (L_X8_wish_24 h0) (K + d + 1) = self at this ⊢
          unfold L_X8_wish_24 B_X8_wish_24
          simp (disch := omega) only [i_lit, i_neg, i_add, i_sub, i_mul, i_ofNat, i_div, i_le, i_lt, i_eq, i_ix, i_inb, i_max, i_min, e_rem, j_lit, j_i, Int.reduceToNat, Int.reduceAdd, Int.reduceSub, Int.reduceMul, Int.reduceNeg, Int.reduceLT, Int.reduceLE, Int.reduceEq, gd_t, gd_T, bd_t, lh_t, on_s, on_n, ec_l, ec_r, if_true, if_false, true_and, and_true, false_and, and_false, true_or, or_true, false_or, or_false, Bool.false_eq_true, b2i_0, b2i_1, bl_0, bl_1, bl_b2, not_true_eq_false, not_false_eq_true, ts.k, ts.r1, ts.k1, ts.l1, ts.r2, ts.k2, ts.l2, ts.r3, ts.k3, ts.l3, ts.r4, ts.k4, ts.l4, ts.r5, ts.k5, ts.l5, ts.r6, ts.k6, ts.l6, ts.r7, ts.k7, ts.l7, ts.r8, ts.k8, ts.l8, ts.r9, ts.k9, ts.l9, ts.r10, ts.k10, ts.l10, ts.r11, ts.k11, ts.l11, ts.r12, ts.k12, ts.l12, ts.r13, ts.k13, ts.l13, ts.r14, ts.k14, ts.l14, ts.r15, ts.k15, ts.l15, ts.r16, ts.k16, ts.l16, ts.r17, ts.k17, ts.l17, ts.r18, ts.k18, ts.l18, ts.r19, ts.k19, ts.l19, ts.r20, ts.k20, ts.l20, ti, e2, e3, ← hσ2, e1, u1]
          rw [show 125 + 440 * s + ((pos r : Nat) : Int) + (3 + σ (pos r + 2)) = 125 + 440 * s + ((pos (r + 1) : Nat) : Int) by omega]
          exact this.mono (fun r hr => ⟨hr.1, u3.trans hr.2⟩)
      | true =>
        have mvv := mv_run (τ := τ) (bt := false) (s := s) (x := y) cs.k273 cs.l273 hf3 q4
        have q4' : (0 ≤ σ (pos r) ∧ σ (pos r) ≤ 5) ∧ (σ (pos r) ≤ 3 → 0 ≤ σ (pos r + 1) ∧ σ (pos r + 1) ≤ 99) := by
          rcases q4 with ⟨p0, -, p1, p2, -⟩ | ⟨p0, -, p1, p2, -⟩ | ⟨p0, -, p1, p2, -⟩ | ⟨p0, -, p1, p2, -⟩ | ⟨p0, -, -⟩ | ⟨p0, -⟩
          all_goals exact ⟨by omega, fun _ => by omega⟩
        have g0 := gσ (pos r)
        have g1 := gσ (pos r + 1)
        refine ⟨(if σ (pos r) = 0 then seenS τ false s (y - 1) + σ (pos r + 1) else if σ (pos r) = 1 then seenS τ false s (y - 1) - σ (pos r + 1) else if σ (pos r) = 2 then σ (pos r + 1) else if σ (pos r) = 3 then leastS τ false s y false - σ (pos r + 1) else if σ (pos r) = 4 then leastS τ false s y false else seenS τ false s (y - 1)), ?_, ?_, ?_⟩
        · repeat' split
          all_goals omega
        · intro K Q hQ
          rw [show K + (d + 1) + 1 = (K + d + 1) + 1 by omega, lp]
          generalize lp (L_X1_sets_k4_38 g) (K + d + 1) = self
          unfold L_X1_sets_k4_38 B_X1_sets_k4_38 B_X1_sets_k4_77
          simp (disch := omega) only [i_lit, i_neg, i_add, i_sub, i_mul, i_ofNat, i_div, i_le, i_lt, i_eq, i_ix, i_inb, i_max, i_min, e_rem, j_lit, j_i, Int.reduceToNat, Int.reduceAdd, Int.reduceSub, Int.reduceMul, Int.reduceNeg, Int.reduceLT, Int.reduceLE, Int.reduceEq, gd_t, gd_T, bd_t, lh_t, on_s, on_n, ec_l, ec_r, if_true, if_false, true_and, and_true, false_and, and_false, true_or, or_true, false_or, or_false, Bool.false_eq_true, b2i_0, b2i_1, bl_0, bl_1, bl_b2, not_true_eq_false, not_false_eq_true, k2.k, r1, R1.k, size_eq R1, e1, q9, q2, q3, cs.k, cs.r273, b1, mvv]
          exact hQ
        · intro h0 hT m K tn hb
          have ts := tn.s
          have ti := tn.i
          obtain ⟨⟨u0, h1⟩, u1, u2, u3⟩ := b3 hT m tn hb
          have u2 : u0 = b2 (true = true) := u2
          have u3 : tf (fun a => a = m + 9) hT h1 := u3
          subst u2
          have tn1 := tn.tf u3 (by omega)
          have ts1 := tn1.s
          have ti1 := tn1.i
          have e4 : (125 + 440 * s + ((pos r : Nat) : Int) + 1).toNat = 125 + 440 * s.toNat + (pos r + 1) := by omega
          have e5 : (125 + 440 * s + ((pos r : Nat) : Int)).toNat = 125 + 440 * s.toNat + pos r := by omega
          have e6 := least_eq tn1 (bt := false) (x := y) (by rw [u3.I (by omega)]; exact hb) hn hs sr.2.2.1 (by omega) (by intro q; cases q) false
          rw [b2_F] at e6
          rw [show K + (d + 1) + 1 = (K + d + 1) + 1 by omega, lp]
          generalize lp (L_X8_wish_24 h0) (K + d + 1) = self
          unfold L_X8_wish_24 B_X8_wish_24
          simp (disch := omega) only [i_lit, i_neg, i_add, i_sub, i_mul, i_ofNat, i_div, i_le, i_lt, i_eq, i_ix, i_inb, i_max, i_min, e_rem, j_lit, j_i, Int.reduceToNat, Int.reduceAdd, Int.reduceSub, Int.reduceMul, Int.reduceNeg, Int.reduceLT, Int.reduceLE, Int.reduceEq, gd_t, gd_T, bd_t, lh_t, on_s, on_n, ec_l, ec_r, if_true, if_false, true_and, and_true, false_and, and_false, true_or, or_true, false_or, or_false, Bool.false_eq_true, b2i_0, b2i_1, bl_0, bl_1, bl_b2, not_true_eq_false, not_false_eq_true, ts.k, ts.r1, ts.k1, ts.l1, ts.r2, ts.k2, ts.l2, ts.r3, ts.k3, ts.l3, ts.r4, ts.k4, ts.l4, ts.r5, ts.k5, ts.l5, ts.r6, ts.k6, ts.l6, ts.r7, ts.k7, ts.l7, ts.r8, ts.k8, ts.l8, ts.r9, ts.k9, ts.l9, ts.r10, ts.k10, ts.l10, ts.r11, ts.k11, ts.l11, ts.r12, ts.k12, ts.l12, ts.r13, ts.k13, ts.l13, ts.r14, ts.k14, ts.l14, ts.r15, ts.k15, ts.l15, ts.r16, ts.k16, ts.l16, ts.r17, ts.k17, ts.l17, ts.r18, ts.k18, ts.l18, ts.r19, ts.k19, ts.l19, ts.r20, ts.k20, ts.l20, ti, e2, e3, ← hσ2, e1, u1]
          unfold B_X8_wish_68
          simp (disch := omega) only [i_lit, i_neg, i_add, i_sub, i_mul, i_ofNat, i_div, i_le, i_lt, i_eq, i_ix, i_inb, i_max, i_min, e_rem, j_lit, j_i, Int.reduceToNat, Int.reduceAdd, Int.reduceSub, Int.reduceMul, Int.reduceNeg, Int.reduceLT, Int.reduceLE, Int.reduceEq, gd_t, gd_T, bd_t, lh_t, on_s, on_n, ec_l, ec_r, if_true, if_false, true_and, and_true, false_and, and_false, true_or, or_true, false_or, or_false, Bool.false_eq_true, b2i_0, b2i_1, bl_0, bl_1, bl_b2, not_true_eq_false, not_false_eq_true, ts1.k, ts1.r1, ts1.k1, ts1.l1, ts1.r2, ts1.k2, ts1.l2, ts1.r3, ts1.k3, ts1.l3, ts1.r4, ts1.k4, ts1.l4, ts1.r5, ts1.k5, ts1.l5, ts1.r6, ts1.k6, ts1.l6, ts1.r7, ts1.k7, ts1.l7, ts1.r8, ts1.k8, ts1.l8, ts1.r9, ts1.k9, ts1.l9, ts1.r10, ts1.k10, ts1.l10, ts1.r11, ts1.k11, ts1.l11, ts1.r12, ts1.k12, ts1.l12, ts1.r13, ts1.k13, ts1.l13, ts1.r14, ts1.k14, ts1.l14, ts1.r15, ts1.k15, ts1.l15, ts1.r16, ts1.k16, ts1.l16, ts1.r17, ts1.k17, ts1.l17, ts1.r18, ts1.k18, ts1.l18, ts1.r19, ts1.k19, ts1.l19, ts1.r20, ts1.k20, ts1.l20, ti1, e4, e5, ← hσ2, e6]
          refine Ok1.mono (Q := fun r_ => r_ = (iI (if σ (pos r) = 0 then seenS τ false s (y - 1) + σ (pos r + 1) else if σ (pos r) = 1 then seenS τ false s (y - 1) - σ (pos r + 1) else if σ (pos r) = 2 then σ (pos r + 1) else if σ (pos r) = 3 then leastS τ false s y false - σ (pos r + 1) else if σ (pos r) = 4 then leastS τ false s y false else seenS τ false s (y - 1)), h1)) ?_ (fun r hr => by rw [hr]; exact ⟨rfl, u3⟩)
          repeat' split
          all_goals exact Ok1.some rfl
  obtain ⟨w, w1, w2, w3⟩ := core (σ 0).toNat 0 (by omega)
  refine ⟨w, w1, ?_, ?_⟩
  · intro Q hQ
    have := w2 (fuel - (σ 0).toNat - 1) Q hQ
    rw [show fuel - (σ 0).toNat - 1 + (σ 0).toNat + 1 = fuel by unfold fuel; omega] at this
    exact this
  · intro hT m tn hb
    have ts := tn.s
    have e7 := seen_eq tn (bt := false) hb (s := s) (x := y - 1) (by omega) (by omega) (by intro q; cases q)
    have := w3 hT hT m (fuel - (σ 0).toNat - 1) tn hb
    rw [show fuel - (σ 0).toNat - 1 + (σ 0).toNat + 1 = fuel by unfold fuel; omega, R5] at this
    unfold F_X8_wish G_X8_wish_24
    simp (disch := omega) only [i_lit, i_neg, i_add, i_sub, i_mul, i_ofNat, i_div, i_le, i_lt, i_eq, i_ix, i_inb, i_max, i_min, e_rem, j_lit, j_i, Int.reduceToNat, Int.reduceAdd, Int.reduceSub, Int.reduceMul, Int.reduceNeg, Int.reduceLT, Int.reduceLE, Int.reduceEq, gd_t, gd_T, bd_t, lh_t, on_s, on_n, ec_l, ec_r, if_true, if_false, true_and, and_true, false_and, and_false, true_or, or_true, false_or, or_false, Bool.false_eq_true, b2i_0, b2i_1, bl_0, bl_1, bl_b2, not_true_eq_false, not_false_eq_true, ts.k, ts.r1, ts.k1, ts.l1, ts.r2, ts.k2, ts.l2, ts.r3, ts.k3, ts.l3, ts.r4, ts.k4, ts.l4, ts.r5, ts.k5, ts.l5, ts.r6, ts.k6, ts.l6, ts.r7, ts.k7, ts.l7, ts.r8, ts.k8, ts.l8, ts.r9, ts.k9, ts.l9, ts.r10, ts.k10, ts.l10, ts.r11, ts.k11, ts.l11, ts.r12, ts.k12, ts.l12, ts.r13, ts.k13, ts.l13, ts.r14, ts.k14, ts.l14, ts.r15, ts.k15, ts.l15, ts.r16, ts.k16, ts.l16, ts.r17, ts.k17, ts.l17, ts.r18, ts.k18, ts.l18, ts.r19, ts.k19, ts.l19, ts.r20, ts.k20, ts.l20, e7]
    exact this
theorem wish_k5 {o : Nat → Nat} {t : Nat} {g : AH} {x : Nat} {τ : Nat → Int} {υ : Nat → Int64} {e : Nat → Nat} {el : Nat → Nat → Nat} {lw : Nat} (c : CrP o t g x τ υ e el lw) {z : Nat} (cs : CS g z) (hz : hR g z 0 = some x) {s y : Int} (hs : 0 ≤ s ∧ s < τ 0) (hy : 1 ≤ y ∧ y < τ 5) (hf3 : ∀ k : Nat, k < 9 → hI g (z + 273) k = iI (worthS τ true s y (100 + k))) :
    ∃ w : Int, (-300 ≤ w ∧ w ≤ 300) ∧ (∀ Q : Int32 × AH → Prop, Ok1 (B_X1_sets_k5_111 g z (el 0 s.toNat) (iI (seenS τ true s (y - 1))) (iI w)) Q → Ok1 (G_X1_sets_k5_38 g z (el 0 s.toNat) (iI (seenS τ true s (y - 1))) (iI (seenS τ true s (y - 1))) (iI 0)) Q) ∧
      ∀ (hT : AH) (m : Nat), TN hT m τ → hI hT m 23 = b2 (true = true) → Ok1 (F_X8_wish hT m (iI s) (iI y)) (fun r => r.1 = iI w ∧ tf (fun a => a = m + 9) hT r.2) := by
  have hn := c.rg.n
  have ht := c.rg.t
  obtain ⟨k1, k2⟩ := stat_at c hs
  obtain ⟨rl, r1, er, elr, pos, R1, R2, -, -, R5, R6, R7⟩ := k2.r
  have own := seen_rng c.rg (bt := true) (s := s) (y := y - 1) (by omega) (by omega) (by intro q; omega)
  have lst := least_rng c.rg (bt := true) (s := s) (y := y) hs (by omega) (by intro q; omega) false
  have sr : SR τ true s y := SR.of c.rg hs (by omega) (by intro q; omega)
  have hB : 125 + 440 * s.toNat = (125 + 440 * s).toNat := by omega
  generalize hσ : (fun i => τ (125 + 440 * s.toNat + i)) = σ at R1 R2 R6 R7
  have hσ2 : ∀ i, σ i = τ (125 + 440 * s.toNat + i) := fun i => by rw [← hσ]
  have hσ0 := hσ2 0
  have hgi := c.rg.i
  have gσ : ∀ i, i31 (σ i) := fun i => by rw [hσ2]; exact hgi _
  have hp0 := R1.p
  have core : ∀ (d r : Nat), (r : Int) + d = σ 0 → ∃ w : Int, (-300 ≤ w ∧ w ≤ 300) ∧ (∀ (K : Nat) (Q : Int32 × AH → Prop), Ok1 (B_X1_sets_k5_111 g z (el 0 s.toNat) (iI (seenS τ true s (y - 1))) (iI w)) Q → Ok1 (lp (L_X1_sets_k5_38 g) (K + d + 1) (g, z, el 0 s.toNat, iI (seenS τ true s (y - 1)), iI (seenS τ true s (y - 1)), iI r)) Q) ∧
      ∀ (h0 hT : AH) (m K : Nat), TN hT m τ → hI hT m 23 = b2 (true = true) → Ok1 (lp (L_X8_wish_24 h0) (K + d + 1) (hT, m, iI s, iI y, iI (seenS τ true s (y - 1)), iI (125 + 440 * s + pos r), iI r)) (fun r => r.1 = iI w ∧ tf (fun a => a = m + 9) hT r.2) := by
    intro d
    induction d with
    | zero =>
      intro r hr
      refine ⟨seenS τ true s (y - 1), by omega, ?_, ?_⟩
      · intro K Q hQ
        rw [lp]
        generalize lp (L_X1_sets_k5_38 g) (K + 0) = self
        unfold L_X1_sets_k5_38 B_X1_sets_k5_38
        have e1 : (σ 0 ≤ (r : Int)) = True := eq_true (by omega)
        simp (disch := omega) only [i_lit, i_neg, i_add, i_sub, i_mul, i_ofNat, i_div, i_le, i_lt, i_eq, i_ix, i_inb, i_max, i_min, e_rem, j_lit, j_i, Int.reduceToNat, Int.reduceAdd, Int.reduceSub, Int.reduceMul, Int.reduceNeg, Int.reduceLT, Int.reduceLE, Int.reduceEq, gd_t, gd_T, bd_t, lh_t, on_s, on_n, ec_l, ec_r, if_true, if_false, true_and, and_true, false_and, and_false, true_or, or_true, false_or, or_false, Bool.false_eq_true, b2i_0, b2i_1, bl_0, bl_1, bl_b2, not_true_eq_false, not_false_eq_true, k2.k, r1, R1.k, size_eq R1, e1]
        exact hQ
      · intro h0 hT m K tn hb
        have ts := tn.s
        have ti := tn.i
        rw [lp]
        generalize lp (L_X8_wish_24 h0) (K + 0) = self
        unfold L_X8_wish_24 B_X8_wish_24 B_X8_wish_169
        have e2 : (125 + 440 * s).toNat = 125 + 440 * s.toNat + 0 := by omega
        have e1 : (σ 0 ≤ (r : Int)) = True := eq_true (by omega)
        simp (disch := omega) only [i_lit, i_neg, i_add, i_sub, i_mul, i_ofNat, i_div, i_le, i_lt, i_eq, i_ix, i_inb, i_max, i_min, e_rem, j_lit, j_i, Int.reduceToNat, Int.reduceAdd, Int.reduceSub, Int.reduceMul, Int.reduceNeg, Int.reduceLT, Int.reduceLE, Int.reduceEq, gd_t, gd_T, bd_t, lh_t, on_s, on_n, ec_l, ec_r, if_true, if_false, true_and, and_true, false_and, and_false, true_or, or_true, false_or, or_false, Bool.false_eq_true, b2i_0, b2i_1, bl_0, bl_1, bl_b2, not_true_eq_false, not_false_eq_true, ts.k, ts.r1, ts.k1, ts.l1, ts.r2, ts.k2, ts.l2, ts.r3, ts.k3, ts.l3, ts.r4, ts.k4, ts.l4, ts.r5, ts.k5, ts.l5, ts.r6, ts.k6, ts.l6, ts.r7, ts.k7, ts.l7, ts.r8, ts.k8, ts.l8, ts.r9, ts.k9, ts.l9, ts.r10, ts.k10, ts.l10, ts.r11, ts.k11, ts.l11, ts.r12, ts.k12, ts.l12, ts.r13, ts.k13, ts.l13, ts.r14, ts.k14, ts.l14, ts.r15, ts.k15, ts.l15, ts.r16, ts.k16, ts.l16, ts.r17, ts.k17, ts.l17, ts.r18, ts.k18, ts.l18, ts.r19, ts.k19, ts.l19, ts.r20, ts.k20, ts.l20, ti, e2, ← hσ2, e1]
        exact Ok1.some ⟨rfl, tf.rfl⟩
    | succ d ih =>
      intro r hr
      obtain ⟨q1, q2, ⟨mv, q3, q4⟩, q5, q6, q7⟩ := R7 r (by omega)
      have q8 := R6 (r + 1) (by omega)
      have q9 := get_eq R1 (i := (r : Int)) (by omega) (by rw [show ((r : Int)).toNat = r by omega]; exact q1)
      have e1 : (σ 0 ≤ (r : Int)) = False := eq_false (by omega)
      have e2 : (125 + 440 * s).toNat = 125 + 440 * s.toNat + 0 := by omega
      have e3 : (125 + 440 * s + ((pos r : Nat) : Int) + 2).toNat = 125 + 440 * s.toNat + (pos r + 2) := by omega
      have g2 := gσ (pos r + 2)
      -- whether the rule holds, on both sides
      have hold : ∃ b : Bool, F_X21_holds g (elr r) (z + 273) = some (b2 (b = true)) ∧ ∀ (hT : AH) (m : Nat), TN hT m τ → hI hT m 23 = b2 (true = true) → Ok1 (F_X8_isSo hT m (iI (125 + 440 * s + pos r + 3)) (iI (σ (pos r + 2))) (iI s) (iI y)) (fun u => u.1 = b2 (b = true) ∧ tf (fun a => a = m + 9) hT u.2) := by
        rcases q7 with ⟨u1, u2⟩ | ⟨u1, cc, u2, u3⟩
        · refine ⟨true, ?_, ?_⟩
          · unfold F_X21_holds B_X21_holds_20 B_X21_holds_25
            simp (disch := omega) only [i_lit, i_neg, i_add, i_sub, i_mul, i_ofNat, i_div, i_le, i_lt, i_eq, i_ix, i_inb, i_max, i_min, e_rem, j_lit, j_i, Int.reduceToNat, Int.reduceAdd, Int.reduceSub, Int.reduceMul, Int.reduceNeg, Int.reduceLT, Int.reduceLE, Int.reduceEq, gd_t, gd_T, bd_t, lh_t, on_s, on_n, ec_l, ec_r, if_true, if_false, true_and, and_true, false_and, and_false, true_or, or_true, false_or, or_false, Bool.false_eq_true, b2i_0, b2i_1, bl_0, bl_1, bl_b2, not_true_eq_false, not_false_eq_true, q2, u2]
            rfl
          · intro hT m tn hb
            rw [u1, isSo_none tn (by omega)]
            exact Ok1.some ⟨rfl, tf.rfl⟩
        · obtain ⟨v, v1, v2, v3⟩ := isSo_run (B := 125 + 440 * s.toNat) sr cs.k273 cs.l273 hf3 hσ2 u3 (by omega) (by omega)
          rw [show ((125 + 440 * s.toNat : Nat) : Int) + ((pos r + 3 : Nat) : Int) = 125 + 440 * s + pos r + 3 by omega, show ((pos (r + 1) : Nat) : Int) - ((pos r + 3 : Nat) : Int) = σ (pos r + 2) by omega] at v3
          rcases v2 with v2 | v2
          · subst v2
            refine ⟨false, ?_, v3⟩
            unfold F_X21_holds B_X21_holds_20 B_X21_holds_25
            simp (disch := omega) only [i_lit, i_neg, i_add, i_sub, i_mul, i_ofNat, i_div, i_le, i_lt, i_eq, i_ix, i_inb, i_max, i_min, e_rem, j_lit, j_i, Int.reduceToNat, Int.reduceAdd, Int.reduceSub, Int.reduceMul, Int.reduceNeg, Int.reduceLT, Int.reduceLE, Int.reduceEq, gd_t, gd_T, bd_t, lh_t, on_s, on_n, ec_l, ec_r, if_true, if_false, true_and, and_true, false_and, and_false, true_or, or_true, false_or, or_false, Bool.false_eq_true, b2i_0, b2i_1, bl_0, bl_1, bl_b2, not_true_eq_false, not_false_eq_true, q2, u2, v1]
            rfl
          · subst v2
            refine ⟨true, ?_, v3⟩
            unfold F_X21_holds B_X21_holds_20 B_X21_holds_25
            simp (disch := omega) only [i_lit, i_neg, i_add, i_sub, i_mul, i_ofNat, i_div, i_le, i_lt, i_eq, i_ix, i_inb, i_max, i_min, e_rem, j_lit, j_i, Int.reduceToNat, Int.reduceAdd, Int.reduceSub, Int.reduceMul, Int.reduceNeg, Int.reduceLT, Int.reduceLE, Int.reduceEq, gd_t, gd_T, bd_t, lh_t, on_s, on_n, ec_l, ec_r, if_true, if_false, true_and, and_true, false_and, and_false, true_or, or_true, false_or, or_false, Bool.false_eq_true, b2i_0, b2i_1, bl_0, bl_1, bl_b2, not_true_eq_false, not_false_eq_true, q2, u2, v1]
            rfl
      obtain ⟨b, b1, b3⟩ := hold
      cases b with
      | false =>
        obtain ⟨w, w1, w2, w3⟩ := ih (r + 1) (by omega)
        refine ⟨w, w1, ?_, ?_⟩
        · intro K Q hQ
          have := w2 K Q hQ
          rw [show K + (d + 1) + 1 = (K + d + 1) + 1 by omega, lp]
          generalize lp (L_X1_sets_k5_38 g) (K + d + 1) = self at this ⊢
          unfold L_X1_sets_k5_38 B_X1_sets_k5_38
          simp (disch := omega) only [i_lit, i_neg, i_add, i_sub, i_mul, i_ofNat, i_div, i_le, i_lt, i_eq, i_ix, i_inb, i_max, i_min, e_rem, j_lit, j_i, Int.reduceToNat, Int.reduceAdd, Int.reduceSub, Int.reduceMul, Int.reduceNeg, Int.reduceLT, Int.reduceLE, Int.reduceEq, gd_t, gd_T, bd_t, lh_t, on_s, on_n, ec_l, ec_r, if_true, if_false, true_and, and_true, false_and, and_false, true_or, or_true, false_or, or_false, Bool.false_eq_true, b2i_0, b2i_1, bl_0, bl_1, bl_b2, not_true_eq_false, not_false_eq_true, k2.k, r1, R1.k, size_eq R1, e1, q9, q2, cs.k, cs.r273, b1]
          exact this
        · intro h0 hT m K tn hb
          have ts := tn.s
          have ti := tn.i
          obtain ⟨⟨u0, h1⟩, u1, u2, u3⟩ := b3 hT m tn hb
          have u2 : u0 = b2 (false = true) := u2
          have u3 : tf (fun a => a = m + 9) hT h1 := u3
          subst u2
          have := w3 h0 h1 m K (tn.tf u3 (by omega)) (by rw [u3.I (by omega)]; exact hb)
          rw [show K + (d + 1) + 1 = (K + d + 1) + 1 by omega, lp]
          generalize lp (L_X8_wish_24 h0) (K + d + 1) = self at this ⊢
          unfold L_X8_wish_24 B_X8_wish_24
          simp (disch := omega) only [i_lit, i_neg, i_add, i_sub, i_mul, i_ofNat, i_div, i_le, i_lt, i_eq, i_ix, i_inb, i_max, i_min, e_rem, j_lit, j_i, Int.reduceToNat, Int.reduceAdd, Int.reduceSub, Int.reduceMul, Int.reduceNeg, Int.reduceLT, Int.reduceLE, Int.reduceEq, gd_t, gd_T, bd_t, lh_t, on_s, on_n, ec_l, ec_r, if_true, if_false, true_and, and_true, false_and, and_false, true_or, or_true, false_or, or_false, Bool.false_eq_true, b2i_0, b2i_1, bl_0, bl_1, bl_b2, not_true_eq_false, not_false_eq_true, ts.k, ts.r1, ts.k1, ts.l1, ts.r2, ts.k2, ts.l2, ts.r3, ts.k3, ts.l3, ts.r4, ts.k4, ts.l4, ts.r5, ts.k5, ts.l5, ts.r6, ts.k6, ts.l6, ts.r7, ts.k7, ts.l7, ts.r8, ts.k8, ts.l8, ts.r9, ts.k9, ts.l9, ts.r10, ts.k10, ts.l10, ts.r11, ts.k11, ts.l11, ts.r12, ts.k12, ts.l12, ts.r13, ts.k13, ts.l13, ts.r14, ts.k14, ts.l14, ts.r15, ts.k15, ts.l15, ts.r16, ts.k16, ts.l16, ts.r17, ts.k17, ts.l17, ts.r18, ts.k18, ts.l18, ts.r19, ts.k19, ts.l19, ts.r20, ts.k20, ts.l20, ti, e2, e3, ← hσ2, e1, u1]
          rw [show 125 + 440 * s + ((pos r : Nat) : Int) + (3 + σ (pos r + 2)) = 125 + 440 * s + ((pos (r + 1) : Nat) : Int) by omega]
          exact this.mono (fun r hr => ⟨hr.1, u3.trans hr.2⟩)
      | true =>
        have mvv := mv_run (τ := τ) (bt := true) (s := s) (x := y) cs.k273 cs.l273 hf3 q4
        have q4' : (0 ≤ σ (pos r) ∧ σ (pos r) ≤ 5) ∧ (σ (pos r) ≤ 3 → 0 ≤ σ (pos r + 1) ∧ σ (pos r + 1) ≤ 99) := by
          rcases q4 with ⟨p0, -, p1, p2, -⟩ | ⟨p0, -, p1, p2, -⟩ | ⟨p0, -, p1, p2, -⟩ | ⟨p0, -, p1, p2, -⟩ | ⟨p0, -, -⟩ | ⟨p0, -⟩
          all_goals exact ⟨by omega, fun _ => by omega⟩
        have g0 := gσ (pos r)
        have g1 := gσ (pos r + 1)
        refine ⟨(if σ (pos r) = 0 then seenS τ true s (y - 1) + σ (pos r + 1) else if σ (pos r) = 1 then seenS τ true s (y - 1) - σ (pos r + 1) else if σ (pos r) = 2 then σ (pos r + 1) else if σ (pos r) = 3 then leastS τ true s y false - σ (pos r + 1) else if σ (pos r) = 4 then leastS τ true s y false else seenS τ true s (y - 1)), ?_, ?_, ?_⟩
        · repeat' split
          all_goals omega
        · intro K Q hQ
          rw [show K + (d + 1) + 1 = (K + d + 1) + 1 by omega, lp]
          generalize lp (L_X1_sets_k5_38 g) (K + d + 1) = self
          unfold L_X1_sets_k5_38 B_X1_sets_k5_38 B_X1_sets_k5_77
          simp (disch := omega) only [i_lit, i_neg, i_add, i_sub, i_mul, i_ofNat, i_div, i_le, i_lt, i_eq, i_ix, i_inb, i_max, i_min, e_rem, j_lit, j_i, Int.reduceToNat, Int.reduceAdd, Int.reduceSub, Int.reduceMul, Int.reduceNeg, Int.reduceLT, Int.reduceLE, Int.reduceEq, gd_t, gd_T, bd_t, lh_t, on_s, on_n, ec_l, ec_r, if_true, if_false, true_and, and_true, false_and, and_false, true_or, or_true, false_or, or_false, Bool.false_eq_true, b2i_0, b2i_1, bl_0, bl_1, bl_b2, not_true_eq_false, not_false_eq_true, k2.k, r1, R1.k, size_eq R1, e1, q9, q2, q3, cs.k, cs.r273, b1, mvv]
          exact hQ
        · intro h0 hT m K tn hb
          have ts := tn.s
          have ti := tn.i
          obtain ⟨⟨u0, h1⟩, u1, u2, u3⟩ := b3 hT m tn hb
          have u2 : u0 = b2 (true = true) := u2
          have u3 : tf (fun a => a = m + 9) hT h1 := u3
          subst u2
          have tn1 := tn.tf u3 (by omega)
          have ts1 := tn1.s
          have ti1 := tn1.i
          have e4 : (125 + 440 * s + ((pos r : Nat) : Int) + 1).toNat = 125 + 440 * s.toNat + (pos r + 1) := by omega
          have e5 : (125 + 440 * s + ((pos r : Nat) : Int)).toNat = 125 + 440 * s.toNat + pos r := by omega
          have e6 := least_eq tn1 (bt := true) (x := y) (by rw [u3.I (by omega)]; exact hb) hn hs sr.2.2.1 (by omega) (by intro q; omega) false
          rw [b2_F] at e6
          rw [show K + (d + 1) + 1 = (K + d + 1) + 1 by omega, lp]
          generalize lp (L_X8_wish_24 h0) (K + d + 1) = self
          unfold L_X8_wish_24 B_X8_wish_24
          simp (disch := omega) only [i_lit, i_neg, i_add, i_sub, i_mul, i_ofNat, i_div, i_le, i_lt, i_eq, i_ix, i_inb, i_max, i_min, e_rem, j_lit, j_i, Int.reduceToNat, Int.reduceAdd, Int.reduceSub, Int.reduceMul, Int.reduceNeg, Int.reduceLT, Int.reduceLE, Int.reduceEq, gd_t, gd_T, bd_t, lh_t, on_s, on_n, ec_l, ec_r, if_true, if_false, true_and, and_true, false_and, and_false, true_or, or_true, false_or, or_false, Bool.false_eq_true, b2i_0, b2i_1, bl_0, bl_1, bl_b2, not_true_eq_false, not_false_eq_true, ts.k, ts.r1, ts.k1, ts.l1, ts.r2, ts.k2, ts.l2, ts.r3, ts.k3, ts.l3, ts.r4, ts.k4, ts.l4, ts.r5, ts.k5, ts.l5, ts.r6, ts.k6, ts.l6, ts.r7, ts.k7, ts.l7, ts.r8, ts.k8, ts.l8, ts.r9, ts.k9, ts.l9, ts.r10, ts.k10, ts.l10, ts.r11, ts.k11, ts.l11, ts.r12, ts.k12, ts.l12, ts.r13, ts.k13, ts.l13, ts.r14, ts.k14, ts.l14, ts.r15, ts.k15, ts.l15, ts.r16, ts.k16, ts.l16, ts.r17, ts.k17, ts.l17, ts.r18, ts.k18, ts.l18, ts.r19, ts.k19, ts.l19, ts.r20, ts.k20, ts.l20, ti, e2, e3, ← hσ2, e1, u1]
          unfold B_X8_wish_68
          simp (disch := omega) only [i_lit, i_neg, i_add, i_sub, i_mul, i_ofNat, i_div, i_le, i_lt, i_eq, i_ix, i_inb, i_max, i_min, e_rem, j_lit, j_i, Int.reduceToNat, Int.reduceAdd, Int.reduceSub, Int.reduceMul, Int.reduceNeg, Int.reduceLT, Int.reduceLE, Int.reduceEq, gd_t, gd_T, bd_t, lh_t, on_s, on_n, ec_l, ec_r, if_true, if_false, true_and, and_true, false_and, and_false, true_or, or_true, false_or, or_false, Bool.false_eq_true, b2i_0, b2i_1, bl_0, bl_1, bl_b2, not_true_eq_false, not_false_eq_true, ts1.k, ts1.r1, ts1.k1, ts1.l1, ts1.r2, ts1.k2, ts1.l2, ts1.r3, ts1.k3, ts1.l3, ts1.r4, ts1.k4, ts1.l4, ts1.r5, ts1.k5, ts1.l5, ts1.r6, ts1.k6, ts1.l6, ts1.r7, ts1.k7, ts1.l7, ts1.r8, ts1.k8, ts1.l8, ts1.r9, ts1.k9, ts1.l9, ts1.r10, ts1.k10, ts1.l10, ts1.r11, ts1.k11, ts1.l11, ts1.r12, ts1.k12, ts1.l12, ts1.r13, ts1.k13, ts1.l13, ts1.r14, ts1.k14, ts1.l14, ts1.r15, ts1.k15, ts1.l15, ts1.r16, ts1.k16, ts1.l16, ts1.r17, ts1.k17, ts1.l17, ts1.r18, ts1.k18, ts1.l18, ts1.r19, ts1.k19, ts1.l19, ts1.r20, ts1.k20, ts1.l20, ti1, e4, e5, ← hσ2, e6]
          refine Ok1.mono (Q := fun r_ => r_ = (iI (if σ (pos r) = 0 then seenS τ true s (y - 1) + σ (pos r + 1) else if σ (pos r) = 1 then seenS τ true s (y - 1) - σ (pos r + 1) else if σ (pos r) = 2 then σ (pos r + 1) else if σ (pos r) = 3 then leastS τ true s y false - σ (pos r + 1) else if σ (pos r) = 4 then leastS τ true s y false else seenS τ true s (y - 1)), h1)) ?_ (fun r hr => by rw [hr]; exact ⟨rfl, u3⟩)
          repeat' split
          all_goals exact Ok1.some rfl
  obtain ⟨w, w1, w2, w3⟩ := core (σ 0).toNat 0 (by omega)
  refine ⟨w, w1, ?_, ?_⟩
  · intro Q hQ
    have := w2 (fuel - (σ 0).toNat - 1) Q hQ
    rw [show fuel - (σ 0).toNat - 1 + (σ 0).toNat + 1 = fuel by unfold fuel; omega] at this
    exact this
  · intro hT m tn hb
    have ts := tn.s
    have e7 := seen_eq tn (bt := true) hb (s := s) (x := y - 1) (by omega) (by omega) (by intro q; omega)
    have := w3 hT hT m (fuel - (σ 0).toNat - 1) tn hb
    rw [show fuel - (σ 0).toNat - 1 + (σ 0).toNat + 1 = fuel by unfold fuel; omega, R5] at this
    unfold F_X8_wish G_X8_wish_24
    simp (disch := omega) only [i_lit, i_neg, i_add, i_sub, i_mul, i_ofNat, i_div, i_le, i_lt, i_eq, i_ix, i_inb, i_max, i_min, e_rem, j_lit, j_i, Int.reduceToNat, Int.reduceAdd, Int.reduceSub, Int.reduceMul, Int.reduceNeg, Int.reduceLT, Int.reduceLE, Int.reduceEq, gd_t, gd_T, bd_t, lh_t, on_s, on_n, ec_l, ec_r, if_true, if_false, true_and, and_true, false_and, and_false, true_or, or_true, false_or, or_false, Bool.false_eq_true, b2i_0, b2i_1, bl_0, bl_1, bl_b2, not_true_eq_false, not_false_eq_true, ts.k, ts.r1, ts.k1, ts.l1, ts.r2, ts.k2, ts.l2, ts.r3, ts.k3, ts.l3, ts.r4, ts.k4, ts.l4, ts.r5, ts.k5, ts.l5, ts.r6, ts.k6, ts.l6, ts.r7, ts.k7, ts.l7, ts.r8, ts.k8, ts.l8, ts.r9, ts.k9, ts.l9, ts.r10, ts.k10, ts.l10, ts.r11, ts.k11, ts.l11, ts.r12, ts.k12, ts.l12, ts.r13, ts.k13, ts.l13, ts.r14, ts.k14, ts.l14, ts.r15, ts.k15, ts.l15, ts.r16, ts.k16, ts.l16, ts.r17, ts.k17, ts.l17, ts.r18, ts.k18, ts.l18, ts.r19, ts.k19, ts.l19, ts.r20, ts.k20, ts.l20, e7]
    exact this
