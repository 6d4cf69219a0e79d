/-! PURE HT: station -/
set_option maxRecDepth 100000
set_option maxHeartbeats 8000000 in
theorem station_end {o : Nat → Nat} {hC hT : AH} {z m x : Nat} {τ : Nat → Int} {υ : Nat → Int64} {e : Nat → Nat} {el : Nat → Nat → Nat} {lw : Nat} (r : RL o hC hT z m x τ υ e el lw) (g : rm z hC) (q2 : τ 2 = 0) (q5 : τ 5 = 0) (p4 : τ 0 < 4) {co pr la : Int} (p1 : 0 ≤ co ∧ co ≤ 99) (p2 : 0 ≤ pr ∧ pr ≤ 99) (p3 : 0 ≤ la ∧ la ≤ 3) : Ok2 (B_X1_station_72 hC z (iI co) (iI pr) (iI la) (iI 1)) (B_X8_station_102 (wI hT (m + 1) (8 + τ 0).toNat (iI co)) m (iI pr) (iI la) (iI (τ 0))) (fun a b => ∃ hC', a = .inl (iI (τ 0), hC') ∧ b.1 = iI (τ 0) ∧ Rx hC' b.2 z m ∧ (∀ u, z + 474 ≤ u → u ≤ z + 495 → sm hC hC' u) ∧ (hn hC ≤ hn hC' ∧ hc hC ≤ hc hC' + 9000 ∧ hs hC ≤ hs hC' + 100000) ∧ tf (fun u => u = m + 1) hT b.2) := by
  have c := r.c
  have cs := r.cs
  have hz := r.hz
  have hn4 := c.rg.n
  have hh3 := c.rg.h
  have hnz := r.hnz
  have hm := r.m
  have tn := r.tn
  have ts := tn.s
  have ti := tn.i
  have hg1 := g.1
  have hg2 := g.2.1
  have t4 : (τ 0 = 4) = False := eq_false (by omega)
  obtain ⟨n, hn0⟩ := Int.eq_ofNat_of_zero_le hn4.1
  obtain ⟨ε, ep1, ep2, ep3⟩ := r.hε
  have sN1 := sN_nw hC 9 0 8
  have g8 : 1 ≤ hc hC ∧ 8 ≤ hs hC := by omega
  obtain ⟨hD, f1, f2⟩ := init9 (h := nw hC 9 0 8) (D := hn hC) (ε := ε) sN1.2.2.1 (by rw [(sN1.2.1 0 (by omega)).2.2.2.2]; exact ep1) (by rw [hn_nw]; omega) (by rw [hn_nw]; omega) (by omega) (by rw [hc_nw, hs_nw]; omega) (iI co) (iI pr) (iI la)
  obtain ⟨⟨nD, cD, sD2⟩, sD, kD, ⟨v0, v1, v2, v3, v4⟩, jD, rD, kl, il, rl⟩ := f2
  rw [hn_nw] at nD sD rD kl il rl
  rw [hc_nw] at cD
  rw [hs_nw] at sD2
  have jD5 : ∀ k, hJ hD (hn hC) k = 0 := fun k => by rw [jD]; exact sN1.2.2.2.2.2.1 k
  have d2 : ∀ a, a < hn hC → sm hC hD a := fun a q => (sN1.2.1 a (by omega)).trans (sD a (by omega) (by omega))
  have d3 : ∀ a, hn hD ≤ a → hK hD a = 0 := fun a q => by rw [(sD a (by omega) (by omega)).1, (sN1.2.1 a (by omega)).1]; exact (r.ho a (by omega)).1
  have d4 : ∀ a, hn hC ≤ a → hK hD a ≠ 120 := fun a q => by
    by_cases u1 : a = hn hC
    · rw [u1, kD]; omega
    · by_cases u2 : a = hn hC + 1
      · rw [u2, kl]; omega
      · rw [d3 a (by omega)]; omega
  obtain ⟨hC', e', h1, h2, h3, h4⟩ := r.call0 (hD := hD) (D := hn hC) ⟨Nat.le_refl _, by omega⟩ d2 d3 (by rw [kD]; unfold okE; omega) (by omega)
  have h2' := h2
  obtain ⟨w1, w2, w3, w4, w5, w6, w7, w8, w9, w10, w11, w12, w13, w14, w15⟩ := h2
  have sz := h3 z (by omega) (by rw [r.ow z (Or.inl rfl)]; omega)
  have lt : ∀ u, o u ≠ 0 → u < hn hC := fun u ha => Nat.lt_of_not_le fun q => ha (r.ho u q).2
  have lx1 := lt (x + 1) (by rw [c.ox 1 (by omega) (by omega)]; omega)
  have ke : hK hC (e 0) = 108 ∨ hK hC (e 0) = 120 := by rcases c.a0.c with w | w <;> omega
  have le0 : e 0 < hn hC := Nat.lt_of_not_le fun q => by have := (r.ho _ q).1; omega
  have lx : x < hn hC := lt x (by have := c.ox 0 (by omega) (by omega); rw [Nat.add_zero] at this; omega)
  have sDD : sm hD hC' (hn hC) := w10 (hn hC) (by omega) (by omega) (by omega)
  have sDL : sm hD hC' (hn hC + 1) := w10 (hn hC + 1) (by omega) (by omega) (by omega)
  have kz' : hK hC' z = 1 := by rw [sz.1]; exact cs.k
  have rz' : hR hC' z 0 = some x := by rw [sz.2.2.2.2]; exact hz
  have kx' : hK hC' x = 2 := by rw [h4.1]; exact c.k
  have rx' : hR hC' x 0 = some (x + 1) := by rw [h4.2.2.2.2]; exact c.r0
  have k1D : hK hD (x + 1) = 32 := by rw [(d2 _ lx1).1]; exact c.a0.k
  have sW : ∀ u, z + 474 ≤ u → u ≤ z + 495 → sm hC hC' u := fun u q1 q2 => h3 u (by omega) (by rw [r.ow u (Or.inr ⟨by omega, by omega⟩)]; omega)
  have mn' : F_X2_many hC' x = some (iI (τ 0 + 1)) := by
    unfold F_X2_many
    simp (disch := omega) only [i_lit, i_neg, i_add, i_sub, i_mul, i_ofNat, i_div, i_le, i_lt, i_eq, i_ix, i_inb, i_max, i_min, e_rem, j_lit, j_i, Int.reduceToNat, Int.reduceAdd, Int.reduceSub, Int.reduceMul, Int.reduceNeg, Int.reduceLT, Int.reduceLE, Int.reduceEq, gd_t, gd_T, ↓bd_m, ↓lh_t, ↓on_m, ↓ec_m, ↓reduceIte, if_true, if_false, true_and, and_true, false_and, and_false, true_or, or_true, false_or, or_false, Bool.false_eq_true, b2i_0, b2i_1, bl_0, bl_1, bl_b2, not_true_eq_false, not_false_eq_true, kx', rx', w1.k, size_eq w1]
  have y0 : (8 + τ 0).toNat = 8 + n := by omega
  have y1 : (12 + τ 0).toNat = 12 + n := by omega
  have y2 : (16 + τ 0).toNat = 16 + n := by omega
  have y3 : (20 + τ 0).toNat = 20 + n := by omega
  have y4 : (24 + τ 0).toNat = 24 + n := by omega
  have y5 : (125 + 440 * τ 0).toNat = 125 + 440 * n := by omega
  have ee : τ 0 + 1 - 1 = τ 0 := by omega
  have cC : B_X1_station_72 hC z (iI co) (iI pr) (iI la) (iI 1) = some (.inl (iI (τ 0), hC')) := by
    simp (disch := omega) only [i_lit, i_neg, i_add, i_sub, i_mul, i_ofNat, i_div, i_le, i_lt, i_eq, i_ix, i_inb, i_max, i_min, e_rem, j_lit, j_i, Int.reduceToNat, Int.reduceAdd, Int.reduceSub, Int.reduceMul, Int.reduceNeg, Int.reduceLT, Int.reduceLE, Int.reduceEq, gd_t, gd_T, ↓bd_m, ↓lh_t, ↓on_m, ↓ec_m, ↓reduceIte, if_true, if_false, true_and, and_true, false_and, and_false, true_or, or_true, false_or, or_false, Bool.false_eq_true, b2i_0, b2i_1, bl_0, bl_1, bl_b2, not_true_eq_false, not_false_eq_true, B_X1_station_72, cs.k, hz, many_eq c, c.k, c.i9, c.i10, c.r0, c.r1, c.r2, c.r3, c.r4, c.r5, c.r6, c.r7, c.r8, c.a0.k, c.a1.k, c.a2.k, c.a3.k, c.a4.k, size_eq c.a0, size_eq c.a1, size_eq c.a2, size_eq c.a3, size_eq c.a4, c.kb, c.lb, c.kl, c.ll, c.kw, c.lw_, c.kL, c.l, right_t, t4, g8, f1, k1D, h1, kz', rz', kx', mn', ee]
  rw [cC]
  have t1 := tn.set (8 + n) (v := co) (by omega)
  have T1 : tf (fun u => u = m + 1) hT (wI hT (m + 1) (8 + n) (iI co)) := tf_wI rfl
  have j1 : hI (wI hT (m + 1) (8 + n) (iI co)) m = hI hT m := (sm_wI (by omega)).2.2.1
  rw [y0]
  generalize wI hT (m + 1) (8 + n) (iI co) = g1 at t1 T1 j1 ⊢
  have s1_ := t1.s
  simp (disch := omega) only [i_lit, i_neg, i_add, i_sub, i_mul, i_ofNat, i_div, i_le, i_lt, i_eq, i_ix, i_inb, i_max, i_min, e_rem, j_lit, j_i, Int.reduceToNat, Int.reduceAdd, Int.reduceSub, Int.reduceMul, Int.reduceNeg, Int.reduceLT, Int.reduceLE, Int.reduceEq, gd_t, gd_T, ↓bd_m, ↓on_m, ↓ec_m, ↓reduceIte, if_true, if_false, true_and, and_true, false_and, and_false, true_or, or_true, false_or, or_false, Bool.false_eq_true, b2i_0, b2i_1, bl_0, bl_1, bl_b2, not_true_eq_false, not_false_eq_true, B_X8_station_102, s1_.k, s1_.r1, s1_.k1, s1_.l1, s1_.r2, s1_.k2, s1_.l2, s1_.r3, s1_.k3, s1_.l3, s1_.r4, s1_.k4, s1_.l4, s1_.r5, s1_.k5, s1_.l5, s1_.r6, s1_.k6, s1_.l6, s1_.r7, s1_.k7, s1_.l7, s1_.r8, s1_.k8, s1_.l8, s1_.r9, s1_.k9, s1_.l9, s1_.r10, s1_.k10, s1_.l10, s1_.r11, s1_.k11, s1_.l11, s1_.r12, s1_.k12, s1_.l12, s1_.r13, s1_.k13, s1_.l13, s1_.r14, s1_.k14, s1_.l14, s1_.r15, s1_.k15, s1_.l15, s1_.r16, s1_.k16, s1_.l16, s1_.r17, s1_.k17, s1_.l17, s1_.r18, s1_.k18, s1_.l18, s1_.r19, s1_.k19, s1_.l19, s1_.r20, s1_.k20, s1_.l20, y1]
  refine Ok2.fwT t1 (v := pr) (by omega) T1 rfl (fun g2 t2_ T2 j2 => ?_)
  have s2_ := t2_.s
  simp (disch := omega) only [i_lit, i_neg, i_add, i_sub, i_mul, i_ofNat, i_div, i_le, i_lt, i_eq, i_ix, i_inb, i_max, i_min, e_rem, j_lit, j_i, Int.reduceToNat, Int.reduceAdd, Int.reduceSub, Int.reduceMul, Int.reduceNeg, Int.reduceLT, Int.reduceLE, Int.reduceEq, gd_t, gd_T, ↓bd_m, ↓on_m, ↓ec_m, ↓reduceIte, if_true, if_false, true_and, and_true, false_and, and_false, true_or, or_true, false_or, or_false, Bool.false_eq_true, b2i_0, b2i_1, bl_0, bl_1, bl_b2, not_true_eq_false, not_false_eq_true, B_X8_station_113, s2_.k, s2_.r1, s2_.k1, s2_.l1, s2_.r2, s2_.k2, s2_.l2, s2_.r3, s2_.k3, s2_.l3, s2_.r4, s2_.k4, s2_.l4, s2_.r5, s2_.k5, s2_.l5, s2_.r6, s2_.k6, s2_.l6, s2_.r7, s2_.k7, s2_.l7, s2_.r8, s2_.k8, s2_.l8, s2_.r9, s2_.k9, s2_.l9, s2_.r10, s2_.k10, s2_.l10, s2_.r11, s2_.k11, s2_.l11, s2_.r12, s2_.k12, s2_.l12, s2_.r13, s2_.k13, s2_.l13, s2_.r14, s2_.k14, s2_.l14, s2_.r15, s2_.k15, s2_.l15, s2_.r16, s2_.k16, s2_.l16, s2_.r17, s2_.k17, s2_.l17, s2_.r18, s2_.k18, s2_.l18, s2_.r19, s2_.k19, s2_.l19, s2_.r20, s2_.k20, s2_.l20, y2]
  refine Ok2.fwT t2_ (v := la) (by omega) T2 rfl (fun g3 t3 T3 j3 => ?_)
  have s3_ := t3.s
  simp (disch := omega) only [i_lit, i_neg, i_add, i_sub, i_mul, i_ofNat, i_div, i_le, i_lt, i_eq, i_ix, i_inb, i_max, i_min, e_rem, j_lit, j_i, Int.reduceToNat, Int.reduceAdd, Int.reduceSub, Int.reduceMul, Int.reduceNeg, Int.reduceLT, Int.reduceLE, Int.reduceEq, gd_t, gd_T, ↓bd_m, ↓on_m, ↓ec_m, ↓reduceIte, if_true, if_false, true_and, and_true, false_and, and_false, true_or, or_true, false_or, or_false, Bool.false_eq_true, b2i_0, b2i_1, bl_0, bl_1, bl_b2, not_true_eq_false, not_false_eq_true, B_X8_station_124, s3_.k, s3_.r1, s3_.k1, s3_.l1, s3_.r2, s3_.k2, s3_.l2, s3_.r3, s3_.k3, s3_.l3, s3_.r4, s3_.k4, s3_.l4, s3_.r5, s3_.k5, s3_.l5, s3_.r6, s3_.k6, s3_.l6, s3_.r7, s3_.k7, s3_.l7, s3_.r8, s3_.k8, s3_.l8, s3_.r9, s3_.k9, s3_.l9, s3_.r10, s3_.k10, s3_.l10, s3_.r11, s3_.k11, s3_.l11, s3_.r12, s3_.k12, s3_.l12, s3_.r13, s3_.k13, s3_.l13, s3_.r14, s3_.k14, s3_.l14, s3_.r15, s3_.k15, s3_.l15, s3_.r16, s3_.k16, s3_.l16, s3_.r17, s3_.k17, s3_.l17, s3_.r18, s3_.k18, s3_.l18, s3_.r19, s3_.k19, s3_.l19, s3_.r20, s3_.k20, s3_.l20, y3]
  refine Ok2.fwT t3 (v := pr) (by omega) T3 rfl (fun g4 t4_ T4 j4 => ?_)
  have s4_ := t4_.s
  simp (disch := omega) only [i_lit, i_neg, i_add, i_sub, i_mul, i_ofNat, i_div, i_le, i_lt, i_eq, i_ix, i_inb, i_max, i_min, e_rem, j_lit, j_i, Int.reduceToNat, Int.reduceAdd, Int.reduceSub, Int.reduceMul, Int.reduceNeg, Int.reduceLT, Int.reduceLE, Int.reduceEq, gd_t, gd_T, ↓bd_m, ↓on_m, ↓ec_m, ↓reduceIte, if_true, if_false, true_and, and_true, false_and, and_false, true_or, or_true, false_or, or_false, Bool.false_eq_true, b2i_0, b2i_1, bl_0, bl_1, bl_b2, not_true_eq_false, not_false_eq_true, B_X8_station_135, s4_.k, s4_.r1, s4_.k1, s4_.l1, s4_.r2, s4_.k2, s4_.l2, s4_.r3, s4_.k3, s4_.l3, s4_.r4, s4_.k4, s4_.l4, s4_.r5, s4_.k5, s4_.l5, s4_.r6, s4_.k6, s4_.l6, s4_.r7, s4_.k7, s4_.l7, s4_.r8, s4_.k8, s4_.l8, s4_.r9, s4_.k9, s4_.l9, s4_.r10, s4_.k10, s4_.l10, s4_.r11, s4_.k11, s4_.l11, s4_.r12, s4_.k12, s4_.l12, s4_.r13, s4_.k13, s4_.l13, s4_.r14, s4_.k14, s4_.l14, s4_.r15, s4_.k15, s4_.l15, s4_.r16, s4_.k16, s4_.l16, s4_.r17, s4_.k17, s4_.l17, s4_.r18, s4_.k18, s4_.l18, s4_.r19, s4_.k19, s4_.l19, s4_.r20, s4_.k20, s4_.l20, y4]
  refine Ok2.fwT t4_ (by omega) T4 rfl (fun g5 t5_ T5 j5 => ?_)
  have s5_ := t5_.s
  simp (disch := omega) only [i_lit, i_neg, i_add, i_sub, i_mul, i_ofNat, i_div, i_le, i_lt, i_eq, i_ix, i_inb, i_max, i_min, e_rem, j_lit, j_i, Int.reduceToNat, Int.reduceAdd, Int.reduceSub, Int.reduceMul, Int.reduceNeg, Int.reduceLT, Int.reduceLE, Int.reduceEq, gd_t, gd_T, ↓bd_m, ↓on_m, ↓ec_m, ↓reduceIte, if_true, if_false, true_and, and_true, false_and, and_false, true_or, or_true, false_or, or_false, Bool.false_eq_true, b2i_0, b2i_1, bl_0, bl_1, bl_b2, not_true_eq_false, not_false_eq_true, B_X8_station_146, s5_.k, s5_.r1, s5_.k1, s5_.l1, s5_.r2, s5_.k2, s5_.l2, s5_.r3, s5_.k3, s5_.l3, s5_.r4, s5_.k4, s5_.l4, s5_.r5, s5_.k5, s5_.l5, s5_.r6, s5_.k6, s5_.l6, s5_.r7, s5_.k7, s5_.l7, s5_.r8, s5_.k8, s5_.l8, s5_.r9, s5_.k9, s5_.l9, s5_.r10, s5_.k10, s5_.l10, s5_.r11, s5_.k11, s5_.l11, s5_.r12, s5_.k12, s5_.l12, s5_.r13, s5_.k13, s5_.l13, s5_.r14, s5_.k14, s5_.l14, s5_.r15, s5_.k15, s5_.l15, s5_.r16, s5_.k16, s5_.l16, s5_.r17, s5_.k17, s5_.l17, s5_.r18, s5_.k18, s5_.l18, s5_.r19, s5_.k19, s5_.l19, s5_.r20, s5_.k20, s5_.l20, y5]
  refine Ok2.fwT t5_ (by omega) T5 rfl (fun g6 t6 T6 j6 => ?_)
  have s6_ := t6.s
  have v6 := t6.i 0
  rw [upT_o (by omega), upT_o (by omega), upT_o (by omega), upT_o (by omega), upT_o (by omega), upT_o (by omega)] at v6
  simp (disch := omega) only [i_lit, i_neg, i_add, i_sub, i_mul, i_ofNat, i_div, i_le, i_lt, i_eq, i_ix, i_inb, i_max, i_min, e_rem, j_lit, j_i, Int.reduceToNat, Int.reduceAdd, Int.reduceSub, Int.reduceMul, Int.reduceNeg, Int.reduceLT, Int.reduceLE, Int.reduceEq, gd_t, gd_T, ↓bd_m, ↓on_m, ↓ec_m, ↓reduceIte, if_true, if_false, true_and, and_true, false_and, and_false, true_or, or_true, false_or, or_false, Bool.false_eq_true, b2i_0, b2i_1, bl_0, bl_1, bl_b2, not_true_eq_false, not_false_eq_true, B_X8_station_161, s6_.k, s6_.r1, s6_.k1, s6_.l1, s6_.r2, s6_.k2, s6_.l2, s6_.r3, s6_.k3, s6_.l3, s6_.r4, s6_.k4, s6_.l4, s6_.r5, s6_.k5, s6_.l5, s6_.r6, s6_.k6, s6_.l6, s6_.r7, s6_.k7, s6_.l7, s6_.r8, s6_.k8, s6_.l8, s6_.r9, s6_.k9, s6_.l9, s6_.r10, s6_.k10, s6_.l10, s6_.r11, s6_.k11, s6_.l11, s6_.r12, s6_.k12, s6_.l12, s6_.r13, s6_.k13, s6_.l13, s6_.r14, s6_.k14, s6_.l14, s6_.r15, s6_.k15, s6_.l15, s6_.r16, s6_.k16, s6_.l16, s6_.r17, s6_.k17, s6_.l17, s6_.r18, s6_.k18, s6_.l18, s6_.r19, s6_.k19, s6_.l19, s6_.r20, s6_.k20, s6_.l20, v6]
  refine Ok2.fwT t6 (by omega) T6 rfl (fun g7 t7 T7 j7 => ?_)
  have hτ : ∀ i, ¬ (i = 0 ∨ i = 8 + n ∨ i = 12 + n ∨ i = 16 + n ∨ i = 20 + n ∨ i = 24 + n ∨ i = 125 + 440 * n) → upT (upT (upT (upT (upT (upT (upT τ (8 + n) co) (12 + n) pr) (16 + n) la) (20 + n) pr) (24 + n) (-1)) (125 + 440 * n) 0) 0 (τ 0 + 1) i = τ i := fun i hi => by rw [upT_o (by omega), upT_o (by omega), upT_o (by omega), upT_o (by omega), upT_o (by omega), upT_o (by omega), upT_o (by omega)]
  have z0 : upT (upT (upT (upT (upT (upT (upT τ (8 + n) co) (12 + n) pr) (16 + n) la) (20 + n) pr) (24 + n) (-1)) (125 + 440 * n) 0) 0 (τ 0 + 1) (8 + n) = co := by rw [upT_o (by omega), upT_o (by omega), upT_o (by omega), upT_o (by omega), upT_o (by omega), upT_o (by omega), upT_s]
  have z1 : upT (upT (upT (upT (upT (upT (upT τ (8 + n) co) (12 + n) pr) (16 + n) la) (20 + n) pr) (24 + n) (-1)) (125 + 440 * n) 0) 0 (τ 0 + 1) (12 + n) = pr := by rw [upT_o (by omega), upT_o (by omega), upT_o (by omega), upT_o (by omega), upT_o (by omega), upT_s]
  have z2 : upT (upT (upT (upT (upT (upT (upT τ (8 + n) co) (12 + n) pr) (16 + n) la) (20 + n) pr) (24 + n) (-1)) (125 + 440 * n) 0) 0 (τ 0 + 1) (16 + n) = la := by rw [upT_o (by omega), upT_o (by omega), upT_o (by omega), upT_o (by omega), upT_s]
  have z3 : upT (upT (upT (upT (upT (upT (upT τ (8 + n) co) (12 + n) pr) (16 + n) la) (20 + n) pr) (24 + n) (-1)) (125 + 440 * n) 0) 0 (τ 0 + 1) (20 + n) = pr := by rw [upT_o (by omega), upT_o (by omega), upT_o (by omega), upT_s]
  have z4 : upT (upT (upT (upT (upT (upT (upT τ (8 + n) co) (12 + n) pr) (16 + n) la) (20 + n) pr) (24 + n) (-1)) (125 + 440 * n) 0) 0 (τ 0 + 1) (24 + n) = -1 := by rw [upT_o (by omega), upT_o (by omega), upT_s]
  have z5 : upT (upT (upT (upT (upT (upT (upT τ (8 + n) co) (12 + n) pr) (16 + n) la) (20 + n) pr) (24 + n) (-1)) (125 + 440 * n) 0) 0 (τ 0 + 1) (125 + 440 * n) = 0 := by rw [upT_o (by omega), upT_s]
  have z6 : upT (upT (upT (upT (upT (upT (upT τ (8 + n) co) (12 + n) pr) (16 + n) la) (20 + n) pr) (24 + n) (-1)) (125 + 440 * n) 0) 0 (τ 0 + 1) 0 = τ 0 + 1 := upT_s _ _ _
  generalize upT (upT (upT (upT (upT (upT (upT τ (8 + n) co) (12 + n) pr) (16 + n) la) (20 + n) pr) (24 + n) (-1)) (125 + 440 * n) 0) 0 (τ 0 + 1) = τ' at hτ z0 z1 z2 z3 z4 z5 z6 t7
  have tn' := t7
  have rg' : RG τ' := ⟨by rw [z6]; omega,
    by rw [hτ 1 (by omega)]; exact c.rg.d,
    by rw [hτ 2 (by omega)]; exact c.rg.h,
    by rw [hτ 3 (by omega)]; exact c.rg.l,
    by rw [hτ 4 (by omega)]; exact c.rg.r,
    by rw [hτ 5 (by omega)]; exact c.rg.t,
    by rw [hτ 6 (by omega)]; exact c.rg.c,
    fun i hi => by
          by_cases u : i = n
          · subst u; rw [z0]; omega
          · rw [hτ _ (by omega)]; exact c.rg.cost i hi,
    fun i hi => by
          by_cases u : i = n
          · subst u; rw [z1]; omega
          · rw [hτ _ (by omega)]; exact c.rg.price i hi,
    fun i hi => by
          by_cases u : i = n
          · subst u; rw [z2]; omega
          · rw [hτ _ (by omega)]; exact c.rg.late i hi,
    fun i hi => by
          by_cases u : i = n
          · subst u; rw [z3]; omega
          · rw [hτ _ (by omega)]; exact c.rg.first i hi,
    fun i hi => by
          rw [z6] at hi
          rw [hτ 2 (by omega)]
          by_cases u : i = n
          · subst u; rw [z4]; omega
          · rw [hτ _ (by omega)]; exact c.rg.chg i (by omega),
    fun k hk => by
          rw [hτ 1 (by omega)] at hk
          have := c.rg.d
          have dr := c.rg.drv k hk
          rw [hτ (28 + 4 * k) (by omega), hτ (29 + 4 * k) (by omega), hτ (30 + 4 * k) (by omega), hτ (31 + 4 * k) (by omega), z6]
          omega,
    fun i hi => by rw [hτ _ (by omega)]; exact c.rg.lev i hi,
    fun i hi => by rw [hτ 4 (by omega)] at hi; have := c.rg.r; rw [hτ _ (by omega)]; exact c.rg.rise i hi,
    fun i hi => by rw [hτ _ (by omega)]; exact c.rg.wgt i hi,
    by rw [hτ 120 (by omega)]; exact c.rg.once,
    by rw [hτ 121 (by omega)]; exact c.rg.at,
    by rw [hτ 122 (by omega)]; exact c.rg.cap,
    by rw [hτ 123 (by omega)]; exact c.rg.told,
    by rw [hτ 124 (by omega)]; exact c.rg.byc,
    fun i hi => by rw [hτ _ (by omega)]; exact c.rg.brd i hi,
    fun i hi => by rw [hτ _ (by omega)]; exact c.rg.row i hi,
    fun k hk => by rw [hτ 6 (by omega)] at hk; have := c.rg.c; rw [hτ (3149 + 3 * k) (by omega), hτ (3150 + 3 * k) (by omega), hτ (3151 + 3 * k) (by omega)]; exact c.rg.chn k hk,
    tn'.g⟩
  have aw : AW hD hC' (x + 1) (e 0) e' (n : Int) (hn hC) := by rw [← hn0]; exact h2'
  have rr := r.add0 (hD := hD) (hC' := hC') (n := n) (D := hn hC) (rl := hn hC + 1) (e' := e') hn0 (by omega) q5 ⟨Nat.le_refl _, by omega⟩ ⟨by omega, by omega, by omega⟩ d2 d3 d4 aw hτ (by rw [z6, hn0]) (by rw [sDD.1]; exact kD) (by rw [sDD.2.2.1, z0]; exact v0) (by rw [sDD.2.2.1, z2]; exact v1) (by rw [sDD.2.2.1, z1]; exact v2) (by rw [sDD.2.2.1, z4]; exact v3) (by rw [sDD.2.2.1, z3]; exact v4) (by rw [sDD.2.2.2.1]; exact jD5 5) (by rw [sDD.2.2.2.1]; exact jD5 6) (by rw [sDD.2.2.2.2]; exact rD) (by rw [sDL.1]; exact kl) (by rw [sDL.2.2.1]; exact il) (by rw [sDL.2.2.2.2, rl, ep1]) z5 rg' T7 tn'
  simp (disch := omega) only [i_lit, i_neg, i_add, i_sub, i_mul, i_ofNat, i_div, i_le, i_lt, i_eq, i_ix, i_inb, i_max, i_min, e_rem, j_lit, j_i, Int.reduceToNat, Int.reduceAdd, Int.reduceSub, Int.reduceMul, Int.reduceNeg, Int.reduceLT, Int.reduceLE, Int.reduceEq, gd_t, gd_T, ↓bd_m, ↓lh_t, ↓on_m, ↓ec_m, ↓reduceIte, if_true, if_false, true_and, and_true, false_and, and_false, true_or, or_true, false_or, or_false, Bool.false_eq_true, b2i_0, b2i_1, bl_0, bl_1, bl_b2, not_true_eq_false, not_false_eq_true, B_X8_station_171]
  exact Ok2.some ⟨hC', rfl, rfl, ⟨_, x, τ', υ, _, _, lw, rr⟩, sW, ⟨by omega, by omega, by omega⟩, T7⟩
set_option maxHeartbeats 16000000 in
theorem op_station {z m : Nat} (x1 x2 x3 : Int32) : ∀ hC hT, Rx hC hT z m → rm z hC → Ok2 (F_X0_station hC z x1 x2 x3 (z + 495)) (F_X8_station hT m x1 x2 x3) (fun a b => VI z m a b ∧ FC z hC a.2 ∧ FT m hT b.2 ∧ Rx a.2 b.2 z m) := by
  intro hC hT ⟨o, x, τ, υ, e, el, lw, r⟩ g
  have hn4 := r.c.rg.n
  have cs := r.cs
  have c := r.c
  have hz := r.hz
  have ts0 := r.tn.s
  have tn := r.tn.wm 5 (iI 0)
  have ti := tn.i
  have ts := tn.s
  have hgi := c.rg.i
  have gr : 1 ≤ hc hC ∧ 6 ≤ hs hC := by have := g.1; have := g.2.1; omega
  obtain ⟨co, rfl, hco⟩ := i_ex x1
  obtain ⟨pr, rfl, hpr⟩ := i_ex x2
  obtain ⟨la, rfl, hla⟩ := i_ex x3
  have hnz := r.hnz
  have hh3 := c.rg.h
  have ht60 := c.rg.t
  have hg1 := g.1
  have hg2 := g.2.1
  have ca : F_X1_can hC (iI 0) = some (.inr (1, hn hC, nw hC 0 0 6)) := can_f gr
  have bad1 : B_X1_station_28 hC z (iI co) (iI pr) (iI la) (iI 0) = some (.inr (1, hn hC, nw hC 0 0 6)) := by
    unfold B_X1_station_28
    simp (disch := omega) only [i_lit, i_neg, i_add, i_sub, i_mul, i_ofNat, i_div, i_le, i_lt, i_eq, i_ix, i_inb, i_max, i_min, e_rem, j_lit, j_i, Int.reduceToNat, Int.reduceAdd, Int.reduceSub, Int.reduceMul, Int.reduceNeg, Int.reduceLT, Int.reduceLE, Int.reduceEq, gd_t, gd_T, ↓bd_m, ↓lh_t, ↓on_m, ↓ec_m, ↓reduceIte, if_true, if_false, true_and, and_true, false_and, and_false, true_or, or_true, false_or, or_false, Bool.false_eq_true, b2i_0, b2i_1, bl_0, bl_1, bl_b2, not_true_eq_false, not_false_eq_true, ca]
  have bad2 : B_X1_station_72 hC z (iI co) (iI pr) (iI la) (iI 0) = some (.inr (2, hn hC, nw hC 0 0 6)) := by
    unfold B_X1_station_72
    simp (disch := omega) only [i_lit, i_neg, i_add, i_sub, i_mul, i_ofNat, i_div, i_le, i_lt, i_eq, i_ix, i_inb, i_max, i_min, e_rem, j_lit, j_i, Int.reduceToNat, Int.reduceAdd, Int.reduceSub, Int.reduceMul, Int.reduceNeg, Int.reduceLT, Int.reduceLE, Int.reduceEq, gd_t, gd_T, ↓bd_m, ↓lh_t, ↓on_m, ↓ec_m, ↓reduceIte, if_true, if_false, true_and, and_true, false_and, and_false, true_or, or_true, false_or, or_false, Bool.false_eq_true, b2i_0, b2i_1, bl_0, bl_1, bl_b2, not_true_eq_false, not_false_eq_true, right_f gr]
  have ie := isEmpty_eq c.a4
  by_cases q2 : τ 2 = 0
  · have t2 : (τ 2 = 0) = True := eq_true q2
    have t2F : (0 < τ 2) = False := eq_false (by omega)
    by_cases q5 : τ 5 = 0
    · rw [b2_t q5] at ie
      have t5 : (τ 5 ≤ 0) = True := eq_true (by omega)
      have e1 := within_eq (wI hT m 5 (iI 0)) (a := co) (b := 0) (c := 99) (by omega) (by omega) (by omega)
      have e2 := isIn_eq hC (a := co) (b := 0) (c := 99) (by omega) (by omega) (by omega)
      have e3 := within_eq (wI hT m 5 (iI 0)) (a := pr) (b := 0) (c := 99) (by omega) (by omega) (by omega)
      have e4 := isIn_eq hC (a := pr) (b := 0) (c := 99) (by omega) (by omega) (by omega)
      have e5 := within_eq (wI hT m 5 (iI 0)) (a := la) (b := 0) (c := 3) (by omega) (by omega) (by omega)
      have e6 := isIn_eq hC (a := la) (b := 0) (c := 3) (by omega) (by omega) (by omega)
      by_cases p1 : 0 ≤ co ∧ co ≤ 99
      · rw [b2_t p1] at e1 e2
        by_cases p2 : 0 ≤ pr ∧ pr ≤ 99
        · rw [b2_t p2] at e3 e4
          by_cases p3 : 0 ≤ la ∧ la ≤ 3
          · rw [b2_t p3] at e5 e6
            by_cases p4 : τ 0 = 4
            · have t4 : (τ 0 = 4) = True := eq_true p4
              simp (disch := omega) only [i_lit, i_neg, i_add, i_sub, i_mul, i_ofNat, i_div, i_le, i_lt, i_eq, i_ix, i_inb, i_max, i_min, e_rem, j_lit, j_i, Int.reduceToNat, Int.reduceAdd, Int.reduceSub, Int.reduceMul, Int.reduceNeg, Int.reduceLT, Int.reduceLE, Int.reduceEq, gd_t, gd_T, ↓bd_m, ↓lh_t, ↓on_m, ↓ec_m, ↓reduceIte, if_true, if_false, true_and, and_true, false_and, and_false, true_or, or_true, false_or, or_false, Bool.false_eq_true, b2i_0, b2i_1, bl_0, bl_1, bl_b2, not_true_eq_false, not_false_eq_true, F_X0_station, F_X1_station, B_X1_station_28, B_X1_station_72, F_X8_station, B_X8_station_5, cs.k, hz, many_eq c, c.k, c.i9, c.i10, c.r0, c.r1, c.r2, c.r3, c.r4, c.r5, c.r6, c.r7, c.r8, c.a0.k, c.a1.k, c.a2.k, c.a3.k, c.a4.k, size_eq c.a0, size_eq c.a1, size_eq c.a2, size_eq c.a3, size_eq c.a4, c.kb, c.lb, c.kl, c.ll, c.kw, c.lw_, c.kL, c.l, t2, ie, can_t, e2, e4, e6, right_t, t4, g.2.2.1, g.2.2.2.1, ts0.k, ts0.r1, ts0.k1, ts0.l1, ts0.r2, ts0.k2, ts0.l2, ts0.r3, ts0.k3, ts0.l3, ts0.r4, ts0.k4, ts0.l4, ts0.r5, ts0.k5, ts0.l5, ts0.r6, ts0.k6, ts0.l6, ts0.r7, ts0.k7, ts0.l7, ts0.r8, ts0.k8, ts0.l8, ts0.r9, ts0.k9, ts0.l9, ts0.r10, ts0.k10, ts0.l10, ts0.r11, ts0.k11, ts0.l11, ts0.r12, ts0.k12, ts0.l12, ts0.r13, ts0.k13, ts0.l13, ts0.r14, ts0.k14, ts0.l14, ts0.r15, ts0.k15, ts0.l15, ts0.r16, ts0.k16, ts0.l16, ts0.r17, ts0.k17, ts0.l17, ts0.r18, ts0.k18, ts0.l18, ts0.r19, ts0.k19, ts0.l19, ts0.r20, ts0.k20, ts0.l20, hK_wI, hL_wI, hR_wI, ti, t2F, t5, e1, e3, e5]
              exact Ok2.some (r.finT g (tf0 (P := GP z)) GP_scr (tf0 (P := TP m)) TP_rng _ _ (j_i (by omega)).symm)
            · have t4 : (τ 0 = 4) = False := eq_false p4
              obtain ⟨a, b, ea, eb, hC', rfl, rb, R', sW, NN, T7⟩ := station_end (r.thr 5 (by omega) (iI 0)) g q2 q5 (by omega) p1 p2 p3
              have so := sW (z + 495) (by omega) (by omega)
              have ko : hK hC' (z + 495) = 102 := by rw [so.1]; exact g.2.2.1
              have lo : hL hC' (z + 495) = 1 := by rw [so.2.1]; exact g.2.2.2.1
              obtain ⟨o', x', τ', υ', e', el', lw', R''⟩ := R'
              simp (disch := omega) only [i_lit, i_neg, i_add, i_sub, i_mul, i_ofNat, i_div, i_le, i_lt, i_eq, i_ix, i_inb, i_max, i_min, e_rem, j_lit, j_i, Int.reduceToNat, Int.reduceAdd, Int.reduceSub, Int.reduceMul, Int.reduceNeg, Int.reduceLT, Int.reduceLE, Int.reduceEq, gd_t, gd_T, ↓bd_m, ↓lh_t, ↓on_m, ↓ec_m, ↓reduceIte, if_true, if_false, true_and, and_true, false_and, and_false, true_or, or_true, false_or, or_false, Bool.false_eq_true, b2i_0, b2i_1, bl_0, bl_1, bl_b2, not_true_eq_false, not_false_eq_true, F_X0_station, F_X1_station, B_X1_station_28, ea, cs.k, hz, many_eq c, c.k, c.i9, c.i10, c.r0, c.r1, c.r2, c.r3, c.r4, c.r5, c.r6, c.r7, c.r8, c.a0.k, c.a1.k, c.a2.k, c.a3.k, c.a4.k, size_eq c.a0, size_eq c.a1, size_eq c.a2, size_eq c.a3, size_eq c.a4, c.kb, c.lb, c.kl, c.ll, c.kw, c.lw_, c.kL, c.l, t2, ie, can_t, e2, e4, e6, t4, ko, lo, F_X8_station, B_X8_station_5, ts0.k, ts0.r1, ts0.k1, ts0.l1, ts0.r2, ts0.k2, ts0.l2, ts0.r3, ts0.k3, ts0.l3, ts0.r4, ts0.k4, ts0.l4, ts0.r5, ts0.k5, ts0.l5, ts0.r6, ts0.k6, ts0.l6, ts0.r7, ts0.k7, ts0.l7, ts0.r8, ts0.k8, ts0.l8, ts0.r9, ts0.k9, ts0.l9, ts0.r10, ts0.k10, ts0.l10, ts0.r11, ts0.k11, ts0.l11, ts0.r12, ts0.k12, ts0.l12, ts0.r13, ts0.k13, ts0.l13, ts0.r14, ts0.k14, ts0.l14, ts0.r15, ts0.k15, ts0.l15, ts0.r16, ts0.k16, ts0.l16, ts0.r17, ts0.k17, ts0.l17, ts0.r18, ts0.k18, ts0.l18, ts0.r19, ts0.k19, ts0.l19, ts0.r20, ts0.k20, ts0.l20, hK_wI, hL_wI, hR_wI, ti, t2F, t5, e1, e3, e5, eb]
              refine Ok2.some ⟨⟨?_, fun _ => ?_⟩, FCown sW (by omega) (by omega) (by omega) _ _, (FT.thr _ _ _ _).trans (T7.mono (fun u q => by omega)), ⟨o', x', τ', υ', e', el', lw', R''.outk (fun u h1 h2 => by rw [(sW u h1 h2).1]; exact g.2.2.2.2 u h1 h2) _ _⟩⟩
              · show _ = hI b.2 m 5
                rw [T7.I (by omega), hI5]
              · show hJ (wJ _ _ _ _) _ _ = _
                rw [hJ_wJ, if_pos ⟨rfl, rfl⟩, rb]
                exact (j_i (by omega)).symm
          · rw [b2_f p3] at e5 e6
            simp (disch := omega) only [i_lit, i_neg, i_add, i_sub, i_mul, i_ofNat, i_div, i_le, i_lt, i_eq, i_ix, i_inb, i_max, i_min, e_rem, j_lit, j_i, Int.reduceToNat, Int.reduceAdd, Int.reduceSub, Int.reduceMul, Int.reduceNeg, Int.reduceLT, Int.reduceLE, Int.reduceEq, gd_t, gd_T, ↓bd_m, ↓lh_t, ↓on_m, ↓ec_m, ↓reduceIte, if_true, if_false, true_and, and_true, false_and, and_false, true_or, or_true, false_or, or_false, Bool.false_eq_true, b2i_0, b2i_1, bl_0, bl_1, bl_b2, not_true_eq_false, not_false_eq_true, F_X0_station, F_X1_station, B_X1_station_28, B_X1_station_71, bad2, B_X0_station_19, F_X8_station, B_X8_station_5, B_X8_station_65, cs.k, hz, many_eq c, c.k, c.i9, c.i10, c.r0, c.r1, c.r2, c.r3, c.r4, c.r5, c.r6, c.r7, c.r8, c.a0.k, c.a1.k, c.a2.k, c.a3.k, c.a4.k, size_eq c.a0, size_eq c.a1, size_eq c.a2, size_eq c.a3, size_eq c.a4, c.kb, c.lb, c.kl, c.ll, c.kw, c.lw_, c.kL, c.l, t2, ie, can_t, e2, e4, e6, ts0.k, ts0.r1, ts0.k1, ts0.l1, ts0.r2, ts0.k2, ts0.l2, ts0.r3, ts0.k3, ts0.l3, ts0.r4, ts0.k4, ts0.l4, ts0.r5, ts0.k5, ts0.l5, ts0.r6, ts0.k6, ts0.l6, ts0.r7, ts0.k7, ts0.l7, ts0.r8, ts0.k8, ts0.l8, ts0.r9, ts0.k9, ts0.l9, ts0.r10, ts0.k10, ts0.l10, ts0.r11, ts0.k11, ts0.l11, ts0.r12, ts0.k12, ts0.l12, ts0.r13, ts0.k13, ts0.l13, ts0.r14, ts0.k14, ts0.l14, ts0.r15, ts0.k15, ts0.l15, ts0.r16, ts0.k16, ts0.l16, ts0.r17, ts0.k17, ts0.l17, ts0.r18, ts0.k18, ts0.l18, ts0.r19, ts0.k19, ts0.l19, ts0.r20, ts0.k20, ts0.l20, hK_wI, hL_wI, hR_wI, ti, t2F, t5, e1, e3, e5, fails_eq ts.k, Nat.reduceEqDiff]
            exact Ok2.some (r.bad _ (by decide))
        · rw [b2_f p2] at e3 e4
          simp (disch := omega) only [i_lit, i_neg, i_add, i_sub, i_mul, i_ofNat, i_div, i_le, i_lt, i_eq, i_ix, i_inb, i_max, i_min, e_rem, j_lit, j_i, Int.reduceToNat, Int.reduceAdd, Int.reduceSub, Int.reduceMul, Int.reduceNeg, Int.reduceLT, Int.reduceLE, Int.reduceEq, gd_t, gd_T, ↓bd_m, ↓lh_t, ↓on_m, ↓ec_m, ↓reduceIte, if_true, if_false, true_and, and_true, false_and, and_false, true_or, or_true, false_or, or_false, Bool.false_eq_true, b2i_0, b2i_1, bl_0, bl_1, bl_b2, not_true_eq_false, not_false_eq_true, F_X0_station, F_X1_station, B_X1_station_28, B_X1_station_71, bad2, B_X0_station_19, F_X8_station, B_X8_station_5, B_X8_station_65, cs.k, hz, many_eq c, c.k, c.i9, c.i10, c.r0, c.r1, c.r2, c.r3, c.r4, c.r5, c.r6, c.r7, c.r8, c.a0.k, c.a1.k, c.a2.k, c.a3.k, c.a4.k, size_eq c.a0, size_eq c.a1, size_eq c.a2, size_eq c.a3, size_eq c.a4, c.kb, c.lb, c.kl, c.ll, c.kw, c.lw_, c.kL, c.l, t2, ie, can_t, e2, e4, ts0.k, ts0.r1, ts0.k1, ts0.l1, ts0.r2, ts0.k2, ts0.l2, ts0.r3, ts0.k3, ts0.l3, ts0.r4, ts0.k4, ts0.l4, ts0.r5, ts0.k5, ts0.l5, ts0.r6, ts0.k6, ts0.l6, ts0.r7, ts0.k7, ts0.l7, ts0.r8, ts0.k8, ts0.l8, ts0.r9, ts0.k9, ts0.l9, ts0.r10, ts0.k10, ts0.l10, ts0.r11, ts0.k11, ts0.l11, ts0.r12, ts0.k12, ts0.l12, ts0.r13, ts0.k13, ts0.l13, ts0.r14, ts0.k14, ts0.l14, ts0.r15, ts0.k15, ts0.l15, ts0.r16, ts0.k16, ts0.l16, ts0.r17, ts0.k17, ts0.l17, ts0.r18, ts0.k18, ts0.l18, ts0.r19, ts0.k19, ts0.l19, ts0.r20, ts0.k20, ts0.l20, hK_wI, hL_wI, hR_wI, ti, t2F, t5, e1, e3, fails_eq ts.k, Nat.reduceEqDiff]
          exact Ok2.some (r.bad _ (by decide))
      · rw [b2_f p1] at e1 e2
        simp (disch := omega) only [i_lit, i_neg, i_add, i_sub, i_mul, i_ofNat, i_div, i_le, i_lt, i_eq, i_ix, i_inb, i_max, i_min, e_rem, j_lit, j_i, Int.reduceToNat, Int.reduceAdd, Int.reduceSub, Int.reduceMul, Int.reduceNeg, Int.reduceLT, Int.reduceLE, Int.reduceEq, gd_t, gd_T, ↓bd_m, ↓lh_t, ↓on_m, ↓ec_m, ↓reduceIte, if_true, if_false, true_and, and_true, false_and, and_false, true_or, or_true, false_or, or_false, Bool.false_eq_true, b2i_0, b2i_1, bl_0, bl_1, bl_b2, not_true_eq_false, not_false_eq_true, F_X0_station, F_X1_station, B_X1_station_28, B_X1_station_71, bad2, B_X0_station_19, F_X8_station, B_X8_station_5, B_X8_station_65, cs.k, hz, many_eq c, c.k, c.i9, c.i10, c.r0, c.r1, c.r2, c.r3, c.r4, c.r5, c.r6, c.r7, c.r8, c.a0.k, c.a1.k, c.a2.k, c.a3.k, c.a4.k, size_eq c.a0, size_eq c.a1, size_eq c.a2, size_eq c.a3, size_eq c.a4, c.kb, c.lb, c.kl, c.ll, c.kw, c.lw_, c.kL, c.l, t2, ie, can_t, e2, ts0.k, ts0.r1, ts0.k1, ts0.l1, ts0.r2, ts0.k2, ts0.l2, ts0.r3, ts0.k3, ts0.l3, ts0.r4, ts0.k4, ts0.l4, ts0.r5, ts0.k5, ts0.l5, ts0.r6, ts0.k6, ts0.l6, ts0.r7, ts0.k7, ts0.l7, ts0.r8, ts0.k8, ts0.l8, ts0.r9, ts0.k9, ts0.l9, ts0.r10, ts0.k10, ts0.l10, ts0.r11, ts0.k11, ts0.l11, ts0.r12, ts0.k12, ts0.l12, ts0.r13, ts0.k13, ts0.l13, ts0.r14, ts0.k14, ts0.l14, ts0.r15, ts0.k15, ts0.l15, ts0.r16, ts0.k16, ts0.l16, ts0.r17, ts0.k17, ts0.l17, ts0.r18, ts0.k18, ts0.l18, ts0.r19, ts0.k19, ts0.l19, ts0.r20, ts0.k20, ts0.l20, hK_wI, hL_wI, hR_wI, ti, t2F, t5, e1, fails_eq ts.k, Nat.reduceEqDiff]
        exact Ok2.some (r.bad _ (by decide))
    · rw [b2_f q5] at ie
      have t5 : (τ 5 ≤ 0) = False := eq_false (by omega)
      simp (disch := omega) only [i_lit, i_neg, i_add, i_sub, i_mul, i_ofNat, i_div, i_le, i_lt, i_eq, i_ix, i_inb, i_max, i_min, e_rem, j_lit, j_i, Int.reduceToNat, Int.reduceAdd, Int.reduceSub, Int.reduceMul, Int.reduceNeg, Int.reduceLT, Int.reduceLE, Int.reduceEq, gd_t, gd_T, ↓bd_m, ↓lh_t, ↓on_m, ↓ec_m, ↓reduceIte, if_true, if_false, true_and, and_true, false_and, and_false, true_or, or_true, false_or, or_false, Bool.false_eq_true, b2i_0, b2i_1, bl_0, bl_1, bl_b2, not_true_eq_false, not_false_eq_true, F_X0_station, F_X1_station, B_X1_station_27, bad1, B_X0_station_15, F_X8_station, B_X8_station_5, B_X8_station_23, cs.k, hz, many_eq c, c.k, c.i9, c.i10, c.r0, c.r1, c.r2, c.r3, c.r4, c.r5, c.r6, c.r7, c.r8, c.a0.k, c.a1.k, c.a2.k, c.a3.k, c.a4.k, size_eq c.a0, size_eq c.a1, size_eq c.a2, size_eq c.a3, size_eq c.a4, c.kb, c.lb, c.kl, c.ll, c.kw, c.lw_, c.kL, c.l, t2, ie, ts0.k, ts0.r1, ts0.k1, ts0.l1, ts0.r2, ts0.k2, ts0.l2, ts0.r3, ts0.k3, ts0.l3, ts0.r4, ts0.k4, ts0.l4, ts0.r5, ts0.k5, ts0.l5, ts0.r6, ts0.k6, ts0.l6, ts0.r7, ts0.k7, ts0.l7, ts0.r8, ts0.k8, ts0.l8, ts0.r9, ts0.k9, ts0.l9, ts0.r10, ts0.k10, ts0.l10, ts0.r11, ts0.k11, ts0.l11, ts0.r12, ts0.k12, ts0.l12, ts0.r13, ts0.k13, ts0.l13, ts0.r14, ts0.k14, ts0.l14, ts0.r15, ts0.k15, ts0.l15, ts0.r16, ts0.k16, ts0.l16, ts0.r17, ts0.k17, ts0.l17, ts0.r18, ts0.k18, ts0.l18, ts0.r19, ts0.k19, ts0.l19, ts0.r20, ts0.k20, ts0.l20, hK_wI, hL_wI, hR_wI, ti, t2F, t5, fails_eq ts.k, Nat.reduceEqDiff]
      exact Ok2.some (r.bad _ (by decide))
  · have t2 : (τ 2 = 0) = False := eq_false q2
    have t2F : (0 < τ 2) = True := eq_true (by omega)
    simp (disch := omega) only [i_lit, i_neg, i_add, i_sub, i_mul, i_ofNat, i_div, i_le, i_lt, i_eq, i_ix, i_inb, i_max, i_min, e_rem, j_lit, j_i, Int.reduceToNat, Int.reduceAdd, Int.reduceSub, Int.reduceMul, Int.reduceNeg, Int.reduceLT, Int.reduceLE, Int.reduceEq, gd_t, gd_T, ↓bd_m, ↓lh_t, ↓on_m, ↓ec_m, ↓reduceIte, if_true, if_false, true_and, and_true, false_and, and_false, true_or, or_true, false_or, or_false, Bool.false_eq_true, b2i_0, b2i_1, bl_0, bl_1, bl_b2, not_true_eq_false, not_false_eq_true, F_X0_station, F_X1_station, B_X1_station_27, bad1, B_X0_station_15, F_X8_station, B_X8_station_5, B_X8_station_23, cs.k, hz, many_eq c, c.k, c.i9, c.i10, c.r0, c.r1, c.r2, c.r3, c.r4, c.r5, c.r6, c.r7, c.r8, c.a0.k, c.a1.k, c.a2.k, c.a3.k, c.a4.k, size_eq c.a0, size_eq c.a1, size_eq c.a2, size_eq c.a3, size_eq c.a4, c.kb, c.lb, c.kl, c.ll, c.kw, c.lw_, c.kL, c.l, t2, ts0.k, ts0.r1, ts0.k1, ts0.l1, ts0.r2, ts0.k2, ts0.l2, ts0.r3, ts0.k3, ts0.l3, ts0.r4, ts0.k4, ts0.l4, ts0.r5, ts0.k5, ts0.l5, ts0.r6, ts0.k6, ts0.l6, ts0.r7, ts0.k7, ts0.l7, ts0.r8, ts0.k8, ts0.l8, ts0.r9, ts0.k9, ts0.l9, ts0.r10, ts0.k10, ts0.l10, ts0.r11, ts0.k11, ts0.l11, ts0.r12, ts0.k12, ts0.l12, ts0.r13, ts0.k13, ts0.l13, ts0.r14, ts0.k14, ts0.l14, ts0.r15, ts0.k15, ts0.l15, ts0.r16, ts0.k16, ts0.l16, ts0.r17, ts0.k17, ts0.l17, ts0.r18, ts0.k18, ts0.l18, ts0.r19, ts0.k19, ts0.l19, ts0.r20, ts0.k20, ts0.l20, hK_wI, hL_wI, hR_wI, ti, t2F, fails_eq ts.k, Nat.reduceEqDiff]
    exact Ok2.some (r.bad _ (by decide))
