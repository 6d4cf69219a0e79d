/-! PURE YC: an hour on both sides, whole -/
set_option maxRecDepth 100000
theorem hour2 {o : Nat → Nat} {hC hT : AH} {z m x : Nat} {e : Nat → Nat} {el : Nat → Nat → Nat} {lw : Nat} {τ0 : Nat → Int} {g gT : AH} {τ : Nat → Int} {υ : Nat → Int64} (H : HS o hC hT z m x e el lw τ0 g gT τ υ) (h3 : τ0 2 < 3000) {p : Nat → Int} (p1 : ∀ i : Nat, (i : Int) < τ 0 → 0 ≤ p i ∧ p i ≤ 99) (p2 : ∀ i : Nat, (i : Int) < τ 0 → hI g (z + 274) i = iI (p i)) (p3 : ∀ i : Nat, (i : Int) < τ 0 → hI gT (m + 11) i = iI (p i)) : Ok2 (G_X1_hour_45 g z (iI (τ0 2)) (iI 0)) (G_X8_hour_44 gT m (iI (τ0 2)) (iI 0)) (HE o hC hT z m x e el lw τ0) := by
  unfold G_X1_hour_45 G_X8_hour_44
  have hN : τ 0 = τ0 0 := H.2.2.2.2.2.1
  have hn4' := H.1.c.rg.n
  have h2' := H.1.c.rg.h
  have hT2 : τ 2 = τ0 2 := H.2.2.2.2.2.2.2
  rw [hN] at p1 p2 p3 hn4'
  generalize ht : τ0 2 = t at h3 hT2
  refine lp_ok2 (fun s u j => ∃ (g gT : AH) (τ : Nat → Int) (υ : Nat → Int64) (n : Int), s = (g, z, iI t, iI n) ∧ u = (gT, m, iI t, iI n) ∧ 0 ≤ n ∧ n ≤ τ 0 ∧ j = (τ 0 - n).toNat ∧ HS o hC hT z m x e el lw τ0 g gT τ υ ∧ (∀ i : Nat, (i : Int) < τ 0 → hI g (z + 274) i = iI (p i)) ∧ (∀ i : Nat, (i : Int) < τ 0 → hI gT (m + 11) i = iI (p i)) ∧ ∀ i : Nat, (i : Int) < n → τ (12 + i) = p i) ?_ fuel (τ 0).toNat _ _ ⟨g, gT, τ, υ, 0, rfl, rfl, by omega, by omega, by simp, H, by rw [hN]; exact p2, by rw [hN]; exact p3, fun i hi => by omega⟩ (lt_fuel (by omega))
  clear H p2 p3 hN hT2 h2'
  rintro f1 f2 s u j ⟨g, gT, τ, υ, n, rfl, rfl, h1, h2, rfl, H, p2, p3, p4⟩ ih
  have H0 := H
  obtain ⟨r, T1, T2, H4, H5, H6, H7, H8⟩ := H
  rw [ht] at H8
  have c := r.c
  have cs := r.cs
  have hz := r.hz
  have hm := r.m
  have hn4 := c.rg.n
  have hh3 := c.rg.h
  have tn := r.tn
  have ts := tn.s
  have ti := tn.i
  have hnz := r.hnz
  unfold L_X1_hour_45 B_X1_hour_45 L_X8_hour_44 B_X8_hour_44
  by_cases q : τ 0 ≤ n
  · unfold B_X1_hour_127 B_X8_hour_127
    obtain ⟨y2, f3, f4, f5⟩ := present_eq tn hn4
    simp (disch := omega) only [i_lit, i_neg, i_add, i_sub, i_mul, i_ofNat, i_div, i_le, i_lt, i_eq, i_ix, i_inb, i_max, i_min, e_rem, j_lit, j_i, Int.reduceToNat, Int.reduceAdd, Int.reduceSub, Int.reduceMul, Int.reduceNeg, Int.reduceLT, Int.reduceLE, Int.reduceEq, gd_t, gd_T, bd_t, lh_t, on_s, on_n, ec_l, ec_r, if_true, if_false, true_and, and_true, false_and, and_false, true_or, or_true, false_or, or_false, Bool.false_eq_true, b2i_0, b2i_1, bl_0, bl_1, bl_b2, not_true_eq_false, not_false_eq_true, cs.k, hz, c.k, many_eq c, q, ts.k, ts.r1, ts.k1, ts.l1, ts.r2, ts.k2, ts.l2, ts.r3, ts.k3, ts.l3, ts.r4, ts.k4, ts.l4, ts.r5, ts.k5, ts.l5, ts.r6, ts.k6, ts.l6, ts.r7, ts.k7, ts.l7, ts.r8, ts.k8, ts.l8, ts.r9, ts.k9, ts.l9, ts.r10, ts.k10, ts.l10, ts.r11, ts.k11, ts.l11, ts.r12, ts.k12, ts.l12, ts.r13, ts.k13, ts.l13, ts.r14, ts.k14, ts.l14, ts.r15, ts.k15, ts.l15, ts.r16, ts.k16, ts.l16, ts.r17, ts.k17, ts.l17, ts.r18, ts.k18, ts.l18, ts.r19, ts.k19, ts.l19, ts.r20, ts.k20, ts.l20, ti, f3]
    have P2 : ∀ a, a = m + 10 → m + 7 ≤ a ∧ a ≤ m + 17 := fun a w => by omega
    have H2 : HS o hC hT z m x e el lw τ0 g y2 τ υ := ⟨r.scT (tS.tf ts f4 P2), T1, T2.trans (FT.tf f4 P2), by rw [f4.I (by omega)]; exact H4, by rw [f4.I (by omega)]; exact H5, H6, H7, by rw [ht]; exact H8⟩
    exact hour3 H2 (by omega) (p := p) (fun i hi => p1 i (by omega)) p2 (fun i hi => by rw [f5 i (by omega)]; unfold nowS; rw [if_pos hi, p4 i (by omega)])
  · obtain ⟨k1, k2⟩ := stat_at c (s := n) (by omega)
    have p2o := p2 n.toNat (by omega)
    have p3o := p3 n.toNat (by omega)
    have pn := p1 n.toNat (by omega)
    have i2 := k2.i2
    have e12 : (12 + n).toNat = 12 + n.toNat := by omega
    have e24 : (24 + n).toNat = 24 + n.toNat := by omega
    have eB : (1885 + 4 * (t % 256) + n).toNat = 1885 + 4 * (t % 256).toNat + n.toNat := by omega
    obtain ⟨rb1, rb2, rb3, -⟩ := c.b (t % 256).toNat (by omega)
    have oS := (c.os n.toNat (by omega)).1
    have xS := (c.os n.toNat (by omega)).2
    have hgi := c.rg.i
    have g12 := hgi (12 + n.toNat)
    have ob : o (x + 8 + (t % 256).toNat) = 2 := by
      have := c.ox (8 + (t % 256).toNat) (by omega) (by omega)
      rw [show x + (8 + (t % 256).toNat) = x + 8 + (t % 256).toNat by omega] at this
      exact this
    generalize hS : el 0 n.toNat = S at k1 k2 i2 oS xS
    have nS : ¬ (z + 269 ≤ S ∧ S ≤ z + 495) := fun u => by have := r.ow S (by omega); omega
    have nb : ¬ (z + 269 ≤ x + 8 + (t % 256).toNat ∧ x + 8 + (t % 256).toNat ≤ z + 495) := fun u => by have := r.ow (x + 8 + (t % 256).toNat) (by omega); omega
    have ne274 : ¬ (z + 274 = S) := by omega
    have g274 : ∀ (a k : Nat) (v : Int32) (h : AH), a = S → hI (wI h a k v) (z + 274) = hI h (z + 274) := fun a k v h w => (sm_wI (by omega)).2.2.1
    have tail : ∀ (g1 gT1 : AH) (w : Int) (τ1 : Nat → Int), tf (fun a => a = S) g g1 → (∀ j, j ≠ 3 → hI g1 S j = hI g S j) → hI g1 S 3 = iI w → hJ g1 S = hJ g S → tf (fun a => a = m + 1) gT gT1 → TN gT1 m τ1 → (∀ i, i ≠ 24 + n.toNat → τ1 i = τ i) → τ1 (24 + n.toNat) = w → (-1 ≤ w ∧ w < τ 2 + 1 ∧ w < 3000) → Ok2 (B_X1_hour_89 g1 (fun h a0 x1 x2 => f1 (h, a0, x1, x2)) z (iI t) (iI n) S) (B_X8_hour_82 gT1 (fun h a0 x1 x2 => f2 (h, a0, x1, x2)) m (iI t) (iI n)) (HE o hC hT z m x e el lw τ0) := by
      intro g1 gT1 w τ1 G1 G2 G3 G4 U1 U2 U3 U4 W
      have cs1 := cs.tf G1
      have hz1 : hR g1 z 0 = some x := by rw [G1.R]; exact hz
      have xk1 : hK g1 x = 2 := by rw [G1.K]; exact c.k
      have x6 : hR g1 x 6 = some (x + 7) := by rw [G1.R]; exact c.r6
      have xkb : hK g1 (x + 7) = 106 := by rw [G1.K]; exact c.kb
      have xlb : hL g1 (x + 7) = 256 := by rw [G1.L]; exact c.lb
      have y1 : hR g1 (x + 7) (t % 256).toNat = some (x + 8 + (t % 256).toNat) := by rw [G1.R]; exact rb1
      have y2 : hK g1 (x + 8 + (t % 256).toNat) = 101 := by rw [G1.K]; exact rb2
      have y3 : hL g1 (x + 8 + (t % 256).toNat) = 4 := by rw [G1.L]; exact rb3
      have kS1 : hK g1 S = 9 := by rw [G1.K]; exact k2.k
      have p2o1 : hI g1 (z + 274) n.toNat = iI (p n.toNat) := by rw [G1.I (by omega)]; exact p2o
      have p2o2 : hI (wI g1 S 2 (iI (p n.toNat))) (z + 274) n.toNat = iI (p n.toNat) := by rw [hI_wI, if_neg (by omega)]; exact p2o1
      have ts1 := U2.s
      have p3o1 : hI gT1 (m + 11) n.toNat = iI (p n.toNat) := by rw [U1.I (by omega)]; exact p3o
      have p3o2 : hI (wI gT1 (m + 1) (12 + n.toNat) (iI (p n.toNat))) (m + 11) n.toNat = iI (p n.toNat) := by rw [hI_wI, if_neg (by omega)]; exact p3o1
      have bid := byte_id (v := p n.toNat) (by omega)
      unfold B_X1_hour_89 B_X8_hour_82
      simp (disch := omega) only [i_lit, i_neg, i_add, i_sub, i_mul, i_ofNat, i_div, i_le, i_lt, i_eq, i_ix, i_inb, i_max, i_min, e_rem, j_lit, j_i, Int.reduceToNat, Int.reduceAdd, Int.reduceSub, Int.reduceMul, Int.reduceNeg, Int.reduceLT, Int.reduceLE, Int.reduceEq, gd_t, gd_T, bd_t, lh_t, on_s, on_n, ec_l, ec_r, if_true, if_false, true_and, and_true, false_and, and_false, true_or, or_true, false_or, or_false, Bool.false_eq_true, b2i_0, b2i_1, bl_0, bl_1, bl_b2, not_true_eq_false, not_false_eq_true, cs1.k, cs1.r274, cs1.k274, cs1.l274, p2o1, kS1, hK_wI, hL_wI, hR_wI, hz1, xk1, x6, xkb, xlb, y1, y2, y3, p2o2, bid, ts1.k, ts1.r1, ts1.k1, ts1.l1, ts1.r2, ts1.k2, ts1.l2, ts1.r3, ts1.k3, ts1.l3, ts1.r4, ts1.k4, ts1.l4, ts1.r5, ts1.k5, ts1.l5, ts1.r6, ts1.k6, ts1.l6, ts1.r7, ts1.k7, ts1.l7, ts1.r8, ts1.k8, ts1.l8, ts1.r9, ts1.k9, ts1.l9, ts1.r10, ts1.k10, ts1.l10, ts1.r11, ts1.k11, ts1.l11, ts1.r12, ts1.k12, ts1.l12, ts1.r13, ts1.k13, ts1.l13, ts1.r14, ts1.k14, ts1.l14, ts1.r15, ts1.k15, ts1.l15, ts1.r16, ts1.k16, ts1.l16, ts1.r17, ts1.k17, ts1.l17, ts1.r18, ts1.k18, ts1.l18, ts1.r19, ts1.k19, ts1.l19, ts1.r20, ts1.k20, ts1.l20, p3o1, p3o2, e12, eB]
      generalize hG : wI (wI g1 S 2 (iI (p n.toNat))) (x + 8 + (t % 256).toNat) n.toNat (iI (p n.toNat)) = G
      have tn' := (U2.set (12 + n.toNat) (v := p n.toNat) (by omega)).set (1885 + 4 * (t % 256).toNat + n.toNat) (v := p n.toNat) (by omega)
      generalize hGT : wI (wI gT1 (m + 1) (12 + n.toNat) (iI (p n.toNat))) (m + 1) (1885 + 4 * (t % 256).toNat + n.toNat) (iI (p n.toNat)) = GT at tn' ⊢
      have t3 : tf (fun a => a = m + 1) gT GT := by rw [← hGT]; exact tf_w (tf_w U1 rfl) rfl
      have c3 : tf (fun a => a = S ∨ a = x + 8 + (t % 256).toNat) g G := by rw [← hG]; exact tf_w (tf_w (G1.mono (fun a u => Or.inl u)) (Or.inl rfl)) (Or.inr rfl)
      have TK : ∀ i, i ≠ 12 + n.toNat ∧ i ≠ 24 + n.toNat ∧ i ≠ 1885 + 4 * (t % 256).toNat + n.toNat → upT (upT τ1 (12 + n.toNat) (p n.toNat)) (1885 + 4 * (t % 256).toNat + n.toNat) (p n.toNat) i = τ i := fun i hi => by rw [upT_o (by omega), upT_o (by omega), U3 i (by omega)]
      have T12 : upT (upT τ1 (12 + n.toNat) (p n.toNat)) (1885 + 4 * (t % 256).toNat + n.toNat) (p n.toNat) (12 + n.toNat) = p n.toNat := by rw [upT_o (by omega), upT_s]
      have T24 : upT (upT τ1 (12 + n.toNat) (p n.toNat)) (1885 + 4 * (t % 256).toNat + n.toNat) (p n.toNat) (24 + n.toNat) = w := by rw [upT_o (by omega), upT_o (by omega), U4]
      have TB : upT (upT τ1 (12 + n.toNat) (p n.toNat)) (1885 + 4 * (t % 256).toNat + n.toNat) (p n.toNat) (1885 + 4 * (t % 256).toNat + n.toNat) = p n.toNat := upT_s _ _ _
      generalize upT (upT τ1 (12 + n.toNat) (p n.toNat)) (1885 + 4 * (t % 256).toNat + n.toNat) (p n.toNat) = τ2 at TK T12 T24 TB tn'
      have rr : RL o G GT z m x τ2 υ e el lw := by
        refine r.hset (s := n.toNat) (k := (t % 256).toNat) (v := p n.toNat) (w := w) (by omega) (by omega) pn W TK T12 T24 TB c3.1 c3.K c3.L c3.R ?_ ?_ ?_ ?_ ?_ ?_ ?_ t3 tn'
        · intro a ha hx
          rw [hS] at ha
          exact ⟨by rw [c3.K], by rw [c3.L], c3.I (by omega), c3.J (by omega), by rw [c3.R]⟩
        · rw [hS, ← hG, hI_wI, if_neg (by omega), hI_wI, if_pos ⟨rfl, rfl⟩]
        · rw [hS, ← hG, hI_wI, if_neg (by omega), hI_wI, if_neg (by omega)]; exact G3
        · intro j h2 h3
          rw [hS, ← hG, hI_wI, if_neg (by omega), hI_wI, if_neg (by omega)]; exact G2 j h3
        · rw [hS, ← hG]; exact G4
        · rw [← hG, hI_wI, if_pos ⟨rfl, rfl⟩]
        · intro j hj
          rw [← hG, hI_wI, if_neg (by omega), hI_wI, if_neg (by omega), G1.I (by omega)]
      refine ih _ _ (τ 0 - (n + 1)).toNat (by omega) ⟨G, GT, τ2, υ, n + 1, rfl, rfl, by omega, by rw [TK 0 (by omega)]; omega, by rw [TK 0 (by omega)], ⟨rr, T1.trans (c3.mono (fun a u => by omega)), T2.trans (t3.mono (fun a u => by omega)), by rw [t3.I (by omega)]; exact H4, by rw [t3.I (by omega)]; exact H5, by rw [TK 0 (by omega)]; exact H6, by rw [TK 1 (by omega)]; exact H7, by rw [TK 2 (by omega), ht]; exact H8⟩, fun i hi => by rw [TK 0 (by omega)] at hi; rw [c3.I (by omega)]; exact p2 i hi, fun i hi => by rw [TK 0 (by omega)] at hi; rw [t3.I (by omega)]; exact p3 i hi, fun i hi => ?_⟩
      by_cases u : i = n.toNat
      · subst u
        exact T12
      · rw [TK _ (by omega)]
        exact p4 i (by omega)
    by_cases qc : p n.toNat = τ (12 + n.toNat)
    · have qT : (p n.toNat = τ (12 + n.toNat)) = True := eq_true qc
      simp (disch := omega) only [i_lit, i_neg, i_add, i_sub, i_mul, i_ofNat, i_div, i_le, i_lt, i_eq, i_ix, i_inb, i_max, i_min, e_rem, j_lit, j_i, Int.reduceToNat, Int.reduceAdd, Int.reduceSub, Int.reduceMul, Int.reduceNeg, Int.reduceLT, Int.reduceLE, Int.reduceEq, gd_t, gd_T, bd_t, lh_t, on_s, on_n, ec_l, ec_r, if_true, if_false, true_and, and_true, false_and, and_false, true_or, or_true, false_or, or_false, Bool.false_eq_true, b2i_0, b2i_1, bl_0, bl_1, bl_b2, not_true_eq_false, not_false_eq_true, cs.k, hz, c.k, many_eq c, q, c.r0, c.a0.k, k1, k2.k, cs.r274, cs.k274, cs.l274, p2o, i2, qT, ts.k, ts.r1, ts.k1, ts.l1, ts.r2, ts.k2, ts.l2, ts.r3, ts.k3, ts.l3, ts.r4, ts.k4, ts.l4, ts.r5, ts.k5, ts.l5, ts.r6, ts.k6, ts.l6, ts.r7, ts.k7, ts.l7, ts.r8, ts.k8, ts.l8, ts.r9, ts.k9, ts.l9, ts.r10, ts.k10, ts.l10, ts.r11, ts.k11, ts.l11, ts.r12, ts.k12, ts.l12, ts.r13, ts.k13, ts.l13, ts.r14, ts.k14, ts.l14, ts.r15, ts.k15, ts.l15, ts.r16, ts.k16, ts.l16, ts.r17, ts.k17, ts.l17, ts.r18, ts.k18, ts.l18, ts.r19, ts.k19, ts.l19, ts.r20, ts.k20, ts.l20, ti, p3o, e12]
      exact tail g gT _ τ tf.rfl (fun _ _ => rfl) k2.i3 rfl tf.rfl tn (fun _ _ => rfl) rfl (c.rg.chg n.toNat (by omega))
    · have qF : (p n.toNat = τ (12 + n.toNat)) = False := eq_false qc
      simp (disch := omega) only [i_lit, i_neg, i_add, i_sub, i_mul, i_ofNat, i_div, i_le, i_lt, i_eq, i_ix, i_inb, i_max, i_min, e_rem, j_lit, j_i, Int.reduceToNat, Int.reduceAdd, Int.reduceSub, Int.reduceMul, Int.reduceNeg, Int.reduceLT, Int.reduceLE, Int.reduceEq, gd_t, gd_T, bd_t, lh_t, on_s, on_n, ec_l, ec_r, if_true, if_false, true_and, and_true, false_and, and_false, true_or, or_true, false_or, or_false, Bool.false_eq_true, b2i_0, b2i_1, bl_0, bl_1, bl_b2, not_true_eq_false, not_false_eq_true, cs.k, hz, c.k, many_eq c, q, c.r0, c.a0.k, k1, k2.k, cs.r274, cs.k274, cs.l274, p2o, i2, qF, ts.k, ts.r1, ts.k1, ts.l1, ts.r2, ts.k2, ts.l2, ts.r3, ts.k3, ts.l3, ts.r4, ts.k4, ts.l4, ts.r5, ts.k5, ts.l5, ts.r6, ts.k6, ts.l6, ts.r7, ts.k7, ts.l7, ts.r8, ts.k8, ts.l8, ts.r9, ts.k9, ts.l9, ts.r10, ts.k10, ts.l10, ts.r11, ts.k11, ts.l11, ts.r12, ts.k12, ts.l12, ts.r13, ts.k13, ts.l13, ts.r14, ts.k14, ts.l14, ts.r15, ts.k15, ts.l15, ts.r16, ts.k16, ts.l16, ts.r17, ts.k17, ts.l17, ts.r18, ts.k18, ts.l18, ts.r19, ts.k19, ts.l19, ts.r20, ts.k20, ts.l20, ti, p3o, e12, e24]
      exact tail (wI g S 3 (iI t)) (wI gT (m + 1) (24 + n.toNat) (iI t)) t (upT τ (24 + n.toNat) t) (tf_wI rfl) (fun j hj => by rw [hI_wI, if_neg (by omega)]) (by rw [hI_wI, if_pos ⟨rfl, rfl⟩]) rfl (tf_wI rfl) (tn.set _ (by omega)) (fun i hi => upT_o hi) (upT_s _ _ _) (by omega)
theorem hour1 {o : Nat → Nat} {hC hT : AH} {z m x : Nat} {e : Nat → Nat} {el : Nat → Nat → Nat} {lw : Nat} {τ : Nat → Int} {υ : Nat → Int64} (r : RL o hC hT z m x τ υ e el lw) (hki : ∀ a, z + 474 ≤ a → a ≤ z + 495 → ¬ imK (hK hC a)) (h3 : τ 2 < 3000) : Ok2 (F_X1_hour hC z) (F_X8_hour hT m) (HE o hC hT z m x e el lw τ) := by
  have c := r.c
  have cs := r.cs
  have hz := r.hz
  have hm := r.m
  have hn4 := c.rg.n
  have hh3 := c.rg.h
  have ts0 := r.tn.s
  have ti0 := r.tn.i
  have H : HS o hC hT z m x e el lw τ hC (wI hT m 23 (iI 0)) τ υ := ⟨r.thr 23 (by omega) _, tf.rfl, tf_wI (by omega), by rw [hI_wI, if_neg (by omega)], by rw [hI_wI, if_pos ⟨rfl, rfl⟩], rfl, rfl, rfl⟩
  unfold F_X1_hour F_X8_hour G_X1_hour_10 G_X8_hour_14
  simp (disch := omega) only [i_lit, i_neg, i_add, i_sub, i_mul, i_ofNat, i_div, i_le, i_lt, i_eq, i_ix, i_inb, i_max, i_min, e_rem, j_lit, j_i, Int.reduceToNat, Int.reduceAdd, Int.reduceSub, Int.reduceMul, Int.reduceNeg, Int.reduceLT, Int.reduceLE, Int.reduceEq, gd_t, gd_T, bd_t, lh_t, on_s, on_n, ec_l, ec_r, if_true, if_false, true_and, and_true, false_and, and_false, true_or, or_true, false_or, or_false, Bool.false_eq_true, b2i_0, b2i_1, bl_0, bl_1, bl_b2, not_true_eq_false, not_false_eq_true, cs.k, hz, c.k, c.i9, ts0.k, ts0.r1, ts0.k1, ts0.l1, ts0.r2, ts0.k2, ts0.l2, ts0.r3, ts0.k3, ts0.l3, ts0.r4, ts0.k4, ts0.l4, ts0.r5, ts0.k5, ts0.l5, ts0.r6, ts0.k6, ts0.l6, ts0.r7, ts0.k7, ts0.l7, ts0.r8, ts0.k8, ts0.l8, ts0.r9, ts0.k9, ts0.l9, ts0.r10, ts0.k10, ts0.l10, ts0.r11, ts0.k11, ts0.l11, ts0.r12, ts0.k12, ts0.l12, ts0.r13, ts0.k13, ts0.l13, ts0.r14, ts0.k14, ts0.l14, ts0.r15, ts0.k15, ts0.l15, ts0.r16, ts0.k16, ts0.l16, ts0.r17, ts0.k17, ts0.l17, ts0.r18, ts0.k18, ts0.l18, ts0.r19, ts0.k19, ts0.l19, ts0.r20, ts0.k20, ts0.l20, ti0]
  generalize ht : τ 2 = t at h3 hh3
  refine lp_ok2 (fun s u j => ∃ (g gT : AH) (n : Int) (p : Nat → Int), s = (g, z, iI t, iI n) ∧ u = (gT, m, iI t, iI n) ∧ 0 ≤ n ∧ n ≤ τ 0 ∧ j = (τ 0 - n).toNat ∧ HS o hC hT z m x e el lw τ g gT τ υ ∧ (∀ i : Nat, (i : Int) < n → (0 ≤ p i ∧ p i ≤ 99) ∧ hI g (z + 274) i = iI (p i) ∧ hI gT (m + 11) i = iI (p i))) ?_ fuel (τ 0).toNat _ _ ⟨hC, wI hT m 23 (iI 0), 0, fun _ => 0, rfl, rfl, by omega, by omega, by simp, H, fun i hi => by omega⟩ (lt_fuel (by omega))
  clear H
  rintro f1 f2 s u j ⟨g, gT, n, p, rfl, rfl, h1, h2, rfl, H, p1⟩ ih
  have H0 := H
  obtain ⟨rr, T1, T2, H4, H5, H6, H7, H8⟩ := H
  have c1 := rr.c
  have cs1 := rr.cs
  have hz1 := rr.hz
  have tn := rr.tn
  have ts := tn.s
  have ti := tn.i
  unfold L_X1_hour_10 B_X1_hour_10 L_X8_hour_14 B_X8_hour_14
  by_cases q : τ 0 ≤ n
  · unfold B_X1_hour_43 B_X8_hour_42
    simp (disch := omega) only [i_lit, i_neg, i_add, i_sub, i_mul, i_ofNat, i_div, i_le, i_lt, i_eq, i_ix, i_inb, i_max, i_min, e_rem, j_lit, j_i, Int.reduceToNat, Int.reduceAdd, Int.reduceSub, Int.reduceMul, Int.reduceNeg, Int.reduceLT, Int.reduceLE, Int.reduceEq, gd_t, gd_T, bd_t, lh_t, on_s, on_n, ec_l, ec_r, if_true, if_false, true_and, and_true, false_and, and_false, true_or, or_true, false_or, or_false, Bool.false_eq_true, b2i_0, b2i_1, bl_0, bl_1, bl_b2, not_true_eq_false, not_false_eq_true, cs1.k, hz1, c1.k, many_eq c1, q, ts.k, ts.r1, ts.k1, ts.l1, ts.r2, ts.k2, ts.l2, ts.r3, ts.k3, ts.l3, ts.r4, ts.k4, ts.l4, ts.r5, ts.k5, ts.l5, ts.r6, ts.k6, ts.l6, ts.r7, ts.k7, ts.l7, ts.r8, ts.k8, ts.l8, ts.r9, ts.k9, ts.l9, ts.r10, ts.k10, ts.l10, ts.r11, ts.k11, ts.l11, ts.r12, ts.k12, ts.l12, ts.r13, ts.k13, ts.l13, ts.r14, ts.k14, ts.l14, ts.r15, ts.k15, ts.l15, ts.r16, ts.k16, ts.l16, ts.r17, ts.k17, ts.l17, ts.r18, ts.k18, ts.l18, ts.r19, ts.k19, ts.l19, ts.r20, ts.k20, ts.l20, ti]
    have := hour2 H0 (by omega) (p := p) (fun i hi => (p1 i (by omega)).1) (fun i hi => (p1 i (by omega)).2.1) (fun i hi => (p1 i (by omega)).2.2)
    rw [ht] at this
    exact this
  · have sr := since_rng c1.rg (s := n) (by omega)
    rw [ht] at sr
    obtain ⟨v, v0, ⟨⟨w1, w2⟩, u1, u2, u3⟩, v3⟩ := sets_k4 c1 cs1 hz1 rr.ow (by omega) (s := n) (y := t) (by omega) (by omega) sr
    have u2 : w1 = iI v := u2
    have u3 : tf (fun a => a = z + 273) g w2 := u3
    subst u2
    obtain ⟨⟨y1, y2⟩, f1', f2', f3⟩ := v3 gT m tn (by rw [H5]; rfl)
    have f2' : y1 = iI v := f2'
    have f3 : tf (fun a => a = m + 9) gT y2 := f3
    subst f2'
    have cs2 := cs1.tf u3
    have ts2 := ts.tf f3
    simp (disch := omega) only [i_lit, i_neg, i_add, i_sub, i_mul, i_ofNat, i_div, i_le, i_lt, i_eq, i_ix, i_inb, i_max, i_min, e_rem, j_lit, j_i, Int.reduceToNat, Int.reduceAdd, Int.reduceSub, Int.reduceMul, Int.reduceNeg, Int.reduceLT, Int.reduceLE, Int.reduceEq, gd_t, gd_T, bd_t, lh_t, on_s, on_n, ec_l, ec_r, if_true, if_false, true_and, and_true, false_and, and_false, true_or, or_true, false_or, or_false, Bool.false_eq_true, b2i_0, b2i_1, bl_0, bl_1, bl_b2, not_true_eq_false, not_false_eq_true, cs1.k, hz1, c1.k, many_eq c1, q, cs1.r274, cs1.r271, u1, cs2.k274, cs2.l274, ts.k, ts.r1, ts.k1, ts.l1, ts.r2, ts.k2, ts.l2, ts.r3, ts.k3, ts.l3, ts.r4, ts.k4, ts.l4, ts.r5, ts.k5, ts.l5, ts.r6, ts.k6, ts.l6, ts.r7, ts.k7, ts.l7, ts.r8, ts.k8, ts.l8, ts.r9, ts.k9, ts.l9, ts.r10, ts.k10, ts.l10, ts.r11, ts.k11, ts.l11, ts.r12, ts.k12, ts.l12, ts.r13, ts.k13, ts.l13, ts.r14, ts.k14, ts.l14, ts.r15, ts.k15, ts.l15, ts.r16, ts.k16, ts.l16, ts.r17, ts.k17, ts.l17, ts.r18, ts.k18, ts.l18, ts.r19, ts.k19, ts.l19, ts.r20, ts.k20, ts.l20, ti, f1', ts2.k11, ts2.l11]
    have C3 : tf (fun a => a = z + 273 ∨ a = z + 274) g (wI w2 (z + 274) n.toNat (iI v)) := tf_w (u3.mono (fun a w => Or.inl w)) (Or.inr rfl)
    have D3 : tf (fun a => a = m + 9 ∨ a = m + 11) gT (wI y2 (m + 11) n.toNat (iI v)) := tf_w (f3.mono (fun a w => Or.inl w)) (Or.inr rfl)
    have P1 : ∀ a, a = z + 273 ∨ a = z + 274 → scr z a := fun a w => by unfold scr; omega
    have P2 : ∀ a, a = m + 9 ∨ a = m + 11 → m + 7 ≤ a ∧ a ≤ m + 17 := fun a w => by omega
    have hk1 : ∀ a, z + 474 ≤ a → a ≤ z + 495 → ¬ imK (hK g a) := by rw [T1.K]; exact hki
    refine ih _ _ (τ 0 - (n + 1)).toNat (by omega) ⟨_, _, n + 1, fun i => if i = n.toNat then v else p i, rfl, rfl, by omega, by omega, rfl, ⟨(rr.scC hk1 (cS.tf C3 P1)).scT (tS.tf ts D3 P2), T1.trans (C3.mono (fun a w => by omega)), T2.trans (D3.mono (fun a w => by omega)), by rw [D3.I (by omega)]; exact H4, by rw [D3.I (by omega)]; exact H5, H6, H7, H8⟩, fun i hi => ?_⟩
    by_cases w : i = n.toNat
    · subst w
      simp only [if_true]
      exact ⟨v0, by rw [hI_wI, if_pos ⟨rfl, rfl⟩], by rw [hI_wI, if_pos ⟨rfl, rfl⟩]⟩
    · simp only [w, if_false]
      obtain ⟨z1, z2, z3⟩ := p1 i (by omega)
      exact ⟨z1, by rw [hI_wI, if_neg (by omega), u3.I (by omega)]; exact z2, by rw [hI_wI, if_neg (by omega), f3.I (by omega)]; exact z3⟩
