/-! PURE YD: run -/
set_option maxRecDepth 100000
theorem FCnt {z : Nat} {h h' : AH} (t : tf (fun a => ¬ (z + 474 ≤ a ∧ a ≤ z + 495)) h h') (k : Nat) (v : Int64) : FC z h (wJ h' (z + 495) k v) := by
  have s : ∀ a, z + 474 ≤ a ∧ a ≤ z + 495 → sm h h' a := fun a q => ⟨by rw [t.K], by rw [t.L], t.I (fun w => w q), t.J (fun w => w q), by rw [t.R]⟩
  exact ⟨⟨by rw [hn_wJ, t.1]; omega, by rw [hc_wJ, t.2.1]; omega, by rw [hs_wJ, t.2.2.1]; omega⟩, fun a h1 h2 => (s a (by omega)).trans (sm_wJ (by omega)), by rw [hK_wJ, t.K], by rw [hL_wJ, t.L]⟩
theorem op_run {z m : Nat} (x1 : Int32) : ∀ hC hT, Rx hC hT z m → rm z hC → Ok2 (F_X0_run hC z x1 (z + 495)) (F_X8_run hT m x1) (fun a b => VI z m a b ∧ FC z hC a.2 ∧ FT m hT b.2 ∧ Rx a.2 b.2 z m) := by
  intro hC hT ⟨o, x, τ, υ, e, el, lw, r⟩ g
  have hn4 := r.c.rg.n
  have cs := r.cs
  have c := r.c
  have hz := r.hz
  have ts0 := r.tn.s
  have tn := r.tn.wm 5 (iI 0)
  have ti := tn.i
  have ts := tn.s
  have hgi := c.rg.i
  have gr : 1 ≤ hc hC ∧ 6 ≤ hs hC := by have := g.1; have := g.2.1; omega
  obtain ⟨s, rfl, hs⟩ := i_ex x1
  have hh3 := c.rg.h
  unfold F_X0_run F_X1_run B_X0_run_12 F_X8_run
  have e2 := within_eq (wI hT m 5 (iI 0)) (a := s) (b := 0) (c := 300) (by omega) (by omega) (by omega)
  have e3 := isIn_eq hC (a := s) (b := 0) (c := 300) (by omega) (by omega) (by omega)
  by_cases q : 0 ≤ s ∧ s ≤ 300
  · rw [b2_t q] at e2 e3
    have core : Ok2 (G_X1_run_30 hC z (iI (min s (3000 - τ 2))) (iI 0)) (G_X8_run_40 (wI hT m 5 (iI 0)) m (iI (min s (3000 - τ 2))) (iI 0)) (fun a b => ∃ g, a = .inl (iI (min s (3000 - τ 2)), g) ∧ b.1 = iI (min s (3000 - τ 2)) ∧ ∃ τ' υ', RL o g b.2 z m x τ' υ' e el lw ∧ tf (fun a => ¬ (z + 474 ≤ a ∧ a ≤ z + 495)) hC g ∧ tf (fun a => m ≤ a ∧ a ≤ m + 20) hT b.2 ∧ hI b.2 m 5 = iI 0) := by
      unfold G_X1_run_30 G_X8_run_40
      refine lp_ok2 (fun s1 u j => ∃ (g gT : AH) (τ' : Nat → Int) (υ' : Nat → Int64) (k : Int), s1 = (g, z, iI (min s (3000 - τ 2)), iI k) ∧ u = (gT, m, iI (min s (3000 - τ 2)), iI k) ∧ 0 ≤ k ∧ k ≤ min s (3000 - τ 2) ∧ j = (min s (3000 - τ 2) - k).toNat ∧ RL o g gT z m x τ' υ' e el lw ∧ tf (fun a => ¬ (z + 474 ≤ a ∧ a ≤ z + 495)) hC g ∧ tf (fun a => m ≤ a ∧ a ≤ m + 20) hT gT ∧ hI gT m 5 = iI 0 ∧ τ' 2 = τ 2 + k) ?_ fuel (min s (3000 - τ 2)).toNat _ _ ⟨hC, _, τ, υ, 0, rfl, rfl, by omega, by omega, by simp, r.thr 5 (by omega) _, tf.rfl, tf_wI (by omega), by rw [hI_wI, if_pos ⟨rfl, rfl⟩], by omega⟩ (lt_fuel (by omega))
      rintro f1 f2 s1 u j ⟨g1, gT, τ', υ', k, rfl, rfl, h1, h2, rfl, r1, T1, T2, H4, H5⟩ ih
      unfold L_X1_run_30 B_X1_run_30 B_X1_run_45 L_X8_run_40 B_X8_run_40 B_X8_run_55
      by_cases q2 : min s (3000 - τ 2) ≤ k
      · simp (disch := omega) only [i_lit, i_neg, i_add, i_sub, i_mul, i_ofNat, i_div, i_le, i_lt, i_eq, i_ix, i_inb, i_max, i_min, e_rem, j_lit, j_i, Int.reduceToNat, Int.reduceAdd, Int.reduceSub, Int.reduceMul, Int.reduceNeg, Int.reduceLT, Int.reduceLE, Int.reduceEq, gd_t, gd_T, bd_t, lh_t, on_s, on_n, ec_l, ec_r, if_true, if_false, true_and, and_true, false_and, and_false, true_or, or_true, false_or, or_false, Bool.false_eq_true, b2i_0, b2i_1, bl_0, bl_1, bl_b2, not_true_eq_false, not_false_eq_true, q2]
        exact Ok2.some ⟨g1, rfl, rfl, τ', υ', r1, T1, T2, H4⟩
      · obtain ⟨a, b, ha, hb, τ2, υ2, r2, U1, U2, U3, U4⟩ := hour1 r1 (by rw [T1.K]; exact g.2.2.2.2) (by omega)
        simp (disch := omega) only [i_lit, i_neg, i_add, i_sub, i_mul, i_ofNat, i_div, i_le, i_lt, i_eq, i_ix, i_inb, i_max, i_min, e_rem, j_lit, j_i, Int.reduceToNat, Int.reduceAdd, Int.reduceSub, Int.reduceMul, Int.reduceNeg, Int.reduceLT, Int.reduceLE, Int.reduceEq, gd_t, gd_T, bd_t, lh_t, on_s, on_n, ec_l, ec_r, if_true, if_false, true_and, and_true, false_and, and_false, true_or, or_true, false_or, or_false, Bool.false_eq_true, b2i_0, b2i_1, bl_0, bl_1, bl_b2, not_true_eq_false, not_false_eq_true, q2, r1.cs.k, r1.tn.s.k, ha, hb]
        exact ih _ _ (min s (3000 - τ 2) - (k + 1)).toNat (by omega) ⟨a, b, τ2, υ2, k + 1, rfl, rfl, by omega, by omega, rfl, r2, T1.trans U1, T2.trans U2, U3.trans H4, by omega⟩
    obtain ⟨a, b, ha, hb, g1, rfl, hb1, τ', υ', r1, T1, T2, H4⟩ := core
    have g2 := g.tf T1
    obtain ⟨b1, b2⟩ := b
    have hb1 : b1 = iI (min s (3000 - τ 2)) := hb1
    subst hb1
    simp (disch := omega) only [i_lit, i_neg, i_add, i_sub, i_mul, i_ofNat, i_div, i_le, i_lt, i_eq, i_ix, i_inb, i_max, i_min, e_rem, j_lit, j_i, Int.reduceToNat, Int.reduceAdd, Int.reduceSub, Int.reduceMul, Int.reduceNeg, Int.reduceLT, Int.reduceLE, Int.reduceEq, gd_t, gd_T, bd_t, lh_t, on_s, on_n, ec_l, ec_r, if_true, if_false, true_and, and_true, false_and, and_false, true_or, or_true, false_or, or_false, Bool.false_eq_true, b2i_0, b2i_1, bl_0, bl_1, bl_b2, not_true_eq_false, not_false_eq_true, cs.k, hz, c.k, c.i9, e3, right_t, ha, g2.2.2.1, g2.2.2.2.1, hK_wI, hL_wI, hR_wI, ts0.k, ts0.r1, ts0.k1, ts0.l1, ts0.r2, ts0.k2, ts0.l2, ts0.r3, ts0.k3, ts0.l3, ts0.r4, ts0.k4, ts0.l4, ts0.r5, ts0.k5, ts0.l5, ts0.r6, ts0.k6, ts0.l6, ts0.r7, ts0.k7, ts0.l7, ts0.r8, ts0.k8, ts0.l8, ts0.r9, ts0.k9, ts0.l9, ts0.r10, ts0.k10, ts0.l10, ts0.r11, ts0.k11, ts0.l11, ts0.r12, ts0.k12, ts0.l12, ts0.r13, ts0.k13, ts0.l13, ts0.r14, ts0.k14, ts0.l14, ts0.r15, ts0.k15, ts0.l15, ts0.r16, ts0.k16, ts0.l16, ts0.r17, ts0.k17, ts0.l17, ts0.r18, ts0.k18, ts0.l18, ts0.r19, ts0.k19, ts0.l19, ts0.r20, ts0.k20, ts0.l20, ti, e2, hb]
    refine Ok2.some ⟨⟨?_, fun _ => ?_⟩, FCnt T1 _ _, T2, ⟨o, x, τ', υ', e, el, lw, r1.out g2 _ _⟩⟩
    · exact H4.symm
    · rw [hJ_wJ, if_pos ⟨rfl, rfl⟩]; first | rfl | exact (j_i (by omega)).symm
  · rw [b2_f q] at e2 e3
    simp (disch := omega) only [i_lit, i_neg, i_add, i_sub, i_mul, i_ofNat, i_div, i_le, i_lt, i_eq, i_ix, i_inb, i_max, i_min, e_rem, j_lit, j_i, Int.reduceToNat, Int.reduceAdd, Int.reduceSub, Int.reduceMul, Int.reduceNeg, Int.reduceLT, Int.reduceLE, Int.reduceEq, gd_t, gd_T, bd_t, lh_t, on_s, on_n, ec_l, ec_r, if_true, if_false, true_and, and_true, false_and, and_false, true_or, or_true, false_or, or_false, Bool.false_eq_true, b2i_0, b2i_1, bl_0, bl_1, bl_b2, not_true_eq_false, not_false_eq_true, cs.k, e3, right_f gr, ts0.k, ts0.r1, ts0.k1, ts0.l1, ts0.r2, ts0.k2, ts0.l2, ts0.r3, ts0.k3, ts0.l3, ts0.r4, ts0.k4, ts0.l4, ts0.r5, ts0.k5, ts0.l5, ts0.r6, ts0.k6, ts0.l6, ts0.r7, ts0.k7, ts0.l7, ts0.r8, ts0.k8, ts0.l8, ts0.r9, ts0.k9, ts0.l9, ts0.r10, ts0.k10, ts0.l10, ts0.r11, ts0.k11, ts0.l11, ts0.r12, ts0.k12, ts0.l12, ts0.r13, ts0.k13, ts0.l13, ts0.r14, ts0.k14, ts0.l14, ts0.r15, ts0.k15, ts0.l15, ts0.r16, ts0.k16, ts0.l16, ts0.r17, ts0.k17, ts0.l17, ts0.r18, ts0.k18, ts0.l18, ts0.r19, ts0.k19, ts0.l19, ts0.r20, ts0.k20, ts0.l20, hK_wI, e2, fails_eq ts.k, Nat.reduceEqDiff]
    exact Ok2.some ⟨⟨by rw [hI_wI, if_pos ⟨rfl, rfl⟩], fun w => by cases w⟩, FC.nw0 r, (FT.thr _ _ _ _).trans (FT.thr _ _ _ _), ⟨o, x, τ, υ, e, el, lw, ((r.nw0 0 6).thr 5 (by omega) _).thr 5 (by omega) _⟩⟩
