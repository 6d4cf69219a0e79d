/-! PURE R: calls on both sides, the first ones -/
set_option maxRecDepth 100000
theorem stationOf_t {o : Nat → Nat} {t : Nat} {h : AH} {x : Nat} {τ : Nat → Int} {υ : Nat → Int64} {e : Nat → Nat} {el : Nat → Nat → Nat} {lw : Nat} (c : CrP o t h x τ υ e el lw) {z : Nat} (cs : CS h z) (hz : hR h z 0 = some x) {s : Int} (hs : 0 ≤ s ∧ s ≤ τ 0 - 1) : F_X1_stationOf h z (iI s) = some (.inl (el 0 s.toNat, h)) := by
  have hn := c.rg.n
  obtain ⟨k1, k2⟩ := stat_at c (s := s) (by omega)
  have e1 := isIn_eq h (a := s) (b := 0) (c := τ 0 - 1) (by omega) (by omega) (by omega)
  rw [b2_t hs] at e1
  unfold F_X1_stationOf
  simp (disch := omega) only [i_lit, i_neg, i_add, i_sub, i_mul, i_ofNat, i_div, i_le, i_lt, i_eq, i_ix, i_inb, i_max, i_min, e_rem, j_lit, j_i, Int.reduceToNat, Int.reduceAdd, Int.reduceSub, Int.reduceMul, Int.reduceNeg, Int.reduceLT, Int.reduceLE, Int.reduceEq, gd_t, gd_T, bd_t, lh_t, on_s, on_n, ec_l, ec_r, if_true, if_false, true_and, and_true, false_and, and_false, true_or, or_true, false_or, or_false, Bool.false_eq_true, b2i_0, b2i_1, bl_0, bl_1, bl_b2, not_true_eq_false, not_false_eq_true, cs.k, hz, c.k, many_eq c, e1, there_t, c.r0, c.a0.k, k1, k2.k]
theorem stationOf_f {o : Nat → Nat} {t : Nat} {h : AH} {x : Nat} {τ : Nat → Int} {υ : Nat → Int64} {e : Nat → Nat} {el : Nat → Nat → Nat} {lw : Nat} (c : CrP o t h x τ υ e el lw) {z : Nat} (cs : CS h z) (hz : hR h z 0 = some x) {s : Int} (hi : i31 s) (hq : ¬ (0 ≤ s ∧ s ≤ τ 0 - 1)) (g : 1 ≤ hc h ∧ 6 ≤ hs h) : F_X1_stationOf h z (iI s) = some (.inr (3, hn h, nw h 0 0 6)) := by
  have hn := c.rg.n
  have e1 := isIn_eq h (a := s) (b := 0) (c := τ 0 - 1) (by omega) (by omega) (by omega)
  rw [b2_f hq] at e1
  unfold F_X1_stationOf
  simp (disch := omega) only [i_lit, i_neg, i_add, i_sub, i_mul, i_ofNat, i_div, i_le, i_lt, i_eq, i_ix, i_inb, i_max, i_min, e_rem, j_lit, j_i, Int.reduceToNat, Int.reduceAdd, Int.reduceSub, Int.reduceMul, Int.reduceNeg, Int.reduceLT, Int.reduceLE, Int.reduceEq, gd_t, gd_T, bd_t, lh_t, on_s, on_n, ec_l, ec_r, if_true, if_false, true_and, and_true, false_and, and_false, true_or, or_true, false_or, or_false, Bool.false_eq_true, b2i_0, b2i_1, bl_0, bl_1, bl_b2, not_true_eq_false, not_false_eq_true, cs.k, hz, c.k, many_eq c, e1, there_f g]
theorem RL.out {o : Nat → Nat} {hC hT : AH} {z m x : Nat} {τ : Nat → Int} {υ : Nat → Int64} {e : Nat → Nat} {el : Nat → Nat → Nat} {lw : Nat} (r : RL o hC hT z m x τ υ e el lw) (g : rm z hC) (k : Nat) (v : Int64) : RL o (wJ hC (z + 495) k v) hT z m x τ υ e el lw := by
  refine r.scC g.2.2.2.2 ⟨rfl, rfl, rfl, rfl, fun a q => sm_wJ (by omega), rfl, rfl, rfl, ?_, ?_⟩
  · rw [hJ_wJ, if_neg (by omega)]
  · rw [hJ_wJ, if_neg (by omega)]
theorem RL.thr {o : Nat → Nat} {hC hT : AH} {z m x : Nat} {τ : Nat → Int} {υ : Nat → Int64} {e : Nat → Nat} {el : Nat → Nat → Nat} {lw : Nat} (r : RL o hC hT z m x τ υ e el lw) (k : Nat) (hk : k ≠ 9 ∧ k ≠ 18 ∧ k ≠ 19) (v : Int32) : RL o hC (wI hT m k v) z m x τ υ e el lw := by
  refine r.scT ⟨r.tn.s.tf (tf_wI (P := fun a => a = m) rfl), fun a q => ⟨(sm_wI (by omega)).2.2.1, rfl⟩, ?_, ?_, ?_, rfl, rfl⟩
  · rw [hI_wI, if_neg (by omega)]
  · rw [hI_wI, if_neg (by omega)]
  · rw [hI_wI, if_neg (by omega)]
theorem RL.nw0 {o : Nat → Nat} {hC hT : AH} {z m x : Nat} {τ : Nat → Int} {υ : Nat → Int64} {e : Nat → Nat} {el : Nat → Nat → Nat} {lw : Nat} (r : RL o hC hT z m x τ υ e el lw) (l s : Nat) : RL o (nw hC 0 l s) hT z m x τ υ e el lw := by
  refine r.grow (fun a q => sm_nw (by omega)) (by rw [hn_nw]; omega) (fun a q => ?_) (fun a q => ?_)
  · rw [hn_nw] at q
    rw [hK_nw, if_neg (by omega)]
    exact (r.ho a (by omega)).1
  · rw [hK_nw]
    split
    · omega
    · rw [(r.ho a q).1]; omega
theorem FC.out (z : Nat) (h : AH) (k : Nat) (v : Int64) : FC z h (wJ h (z + 495) k v) := ⟨⟨Nat.le_refl _, by rw [hc_wJ]; omega, by rw [hs_wJ]; omega⟩, fun a h1 h2 => sm_wJ (by omega), rfl, rfl⟩
theorem FC.nw0 {o : Nat → Nat} {hC hT : AH} {z m x : Nat} {τ : Nat → Int} {υ : Nat → Int64} {e : Nat → Nat} {el : Nat → Nat → Nat} {lw : Nat} (r : RL o hC hT z m x τ υ e el lw) : FC z hC (nw hC 0 0 6) := by
  have := r.hnz
  exact ⟨⟨by rw [hn_nw]; omega, by rw [hc_nw]; omega, by rw [hs_nw]; omega⟩, fun a h1 h2 => sm_nw (by omega), by rw [hK_nw, if_neg (by omega)], by rw [hL_nw, if_neg (by omega)]⟩
theorem FT.thr (m : Nat) (h : AH) (k : Nat) (v : Int32) : FT m h (wI h m k v) := tf_wI (by omega)
theorem TN.wm {h : AH} {m : Nat} {τ : Nat → Int} (t : TN h m τ) (k : Nat) (v : Int32) : TN (wI h m k v) m τ := t.tf (tf_wI (P := fun a => a = m) rfl) (by omega)
theorem fails_eq {h : AH} {m : Nat} (k : hK h m = 8) (v : Int32) : F_X8_fails h m v = some (iI 0, wI h m 5 v) := by
  unfold F_X8_fails
  simp (disch := omega) only [i_lit, i_neg, i_add, i_sub, i_mul, i_ofNat, i_div, i_le, i_lt, i_eq, i_ix, i_inb, i_max, i_min, e_rem, j_lit, j_i, Int.reduceToNat, Int.reduceAdd, Int.reduceSub, Int.reduceMul, Int.reduceNeg, Int.reduceLT, Int.reduceLE, Int.reduceEq, gd_t, gd_T, bd_t, lh_t, on_s, on_n, ec_l, ec_r, if_true, if_false, true_and, and_true, false_and, and_false, true_or, or_true, false_or, or_false, Bool.false_eq_true, b2i_0, b2i_1, bl_0, bl_1, bl_b2, not_true_eq_false, not_false_eq_true, k]
/-- what a call's two ends must say of each other, of an int -/
def VI (z m : Nat) (a : Int32 × AH) (b : Int32 × AH) : Prop := a.1 = hI b.2 m 5 ∧ (a.1 = 0 → hJ a.2 (z + 495) 0 = b.1.toInt64)
theorem op_price {z m : Nat} (x1 : Int32) : ∀ hC hT, Rx hC hT z m → rm z hC → Ok2 (F_X0_price hC z x1 (z + 495)) (F_X8_price hT m x1) (fun a b => VI z m a b ∧ FC z hC a.2 ∧ FT m hT b.2 ∧ Rx a.2 b.2 z m) := by
  intro hC hT ⟨o, x, τ, υ, e, el, lw, r⟩ g
  obtain ⟨s, rfl, hs⟩ := i_ex x1
  have hn := r.c.rg.n
  have cs := r.cs
  have tn := r.tn.wm 5 (iI 0)
  have ts := tn.s
  have ts0 := r.tn.s
  have ti := tn.i
  unfold F_X0_price F_X1_price B_X0_price_12 F_X8_price B_X8_price_30
  have e1 := isStation_eq tn hn hs
  by_cases q : 0 ≤ s ∧ s ≤ τ 0 - 1
  · rw [b2_t q] at e1
    obtain ⟨k1, k2⟩ := stat_at r.c (s := s) (by omega)
    have i2 := k2.i2
    rw [show 12 + s.toNat = (12 + s).toNat by omega] at i2
    simp (disch := omega) only [i_lit, i_neg, i_add, i_sub, i_mul, i_ofNat, i_div, i_le, i_lt, i_eq, i_ix, i_inb, i_max, i_min, e_rem, j_lit, j_i, Int.reduceToNat, Int.reduceAdd, Int.reduceSub, Int.reduceMul, Int.reduceNeg, Int.reduceLT, Int.reduceLE, Int.reduceEq, gd_t, gd_T, bd_t, lh_t, on_s, on_n, ec_l, ec_r, if_true, if_false, true_and, and_true, false_and, and_false, true_or, or_true, false_or, or_false, Bool.false_eq_true, b2i_0, b2i_1, bl_0, bl_1, bl_b2, not_true_eq_false, not_false_eq_true, cs.k, stationOf_t r.c cs r.hz q, k2.k, i2, g.2.2.1, g.2.2.2.1, ts0.k, ts0.r1, ts0.k1, ts0.l1, ts0.r2, ts0.k2, ts0.l2, ts0.r3, ts0.k3, ts0.l3, ts0.r4, ts0.k4, ts0.l4, ts0.r5, ts0.k5, ts0.l5, ts0.r6, ts0.k6, ts0.l6, ts0.r7, ts0.k7, ts0.l7, ts0.r8, ts0.k8, ts0.l8, ts0.r9, ts0.k9, ts0.l9, ts0.r10, ts0.k10, ts0.l10, ts0.r11, ts0.k11, ts0.l11, ts0.r12, ts0.k12, ts0.l12, ts0.r13, ts0.k13, ts0.l13, ts0.r14, ts0.k14, ts0.l14, ts0.r15, ts0.k15, ts0.l15, ts0.r16, ts0.k16, ts0.l16, ts0.r17, ts0.k17, ts0.l17, ts0.r18, ts0.k18, ts0.l18, ts0.r19, ts0.k19, ts0.l19, ts0.r20, ts0.k20, ts0.l20, hK_wI, e1, ti, hR_wI, hL_wI]
    refine Ok2.some ?_
    refine ⟨⟨?_, fun _ => ?_⟩, FC.out _ _ _ _, FT.thr _ _ _ _, ⟨o, x, τ, υ, e, el, lw, (r.out g _ _).thr 5 (by omega) _⟩⟩
    · rw [hI_wI, if_pos ⟨rfl, rfl⟩]
    · rw [hJ_wJ, if_pos ⟨rfl, rfl⟩, j_i (r.c.rg.i _)]
  · rw [b2_f q] at e1
    simp (disch := omega) only [i_lit, i_neg, i_add, i_sub, i_mul, i_ofNat, i_div, i_le, i_lt, i_eq, i_ix, i_inb, i_max, i_min, e_rem, j_lit, j_i, Int.reduceToNat, Int.reduceAdd, Int.reduceSub, Int.reduceMul, Int.reduceNeg, Int.reduceLT, Int.reduceLE, Int.reduceEq, gd_t, gd_T, bd_t, lh_t, on_s, on_n, ec_l, ec_r, if_true, if_false, true_and, and_true, false_and, and_false, true_or, or_true, false_or, or_false, Bool.false_eq_true, b2i_0, b2i_1, bl_0, bl_1, bl_b2, not_true_eq_false, not_false_eq_true, cs.k, stationOf_f r.c cs r.hz hs q (by have := g.1; have := g.2.1; omega), ts0.k, ts0.r1, ts0.k1, ts0.l1, ts0.r2, ts0.k2, ts0.l2, ts0.r3, ts0.k3, ts0.l3, ts0.r4, ts0.k4, ts0.l4, ts0.r5, ts0.k5, ts0.l5, ts0.r6, ts0.k6, ts0.l6, ts0.r7, ts0.k7, ts0.l7, ts0.r8, ts0.k8, ts0.l8, ts0.r9, ts0.k9, ts0.l9, ts0.r10, ts0.k10, ts0.l10, ts0.r11, ts0.k11, ts0.l11, ts0.r12, ts0.k12, ts0.l12, ts0.r13, ts0.k13, ts0.l13, ts0.r14, ts0.k14, ts0.l14, ts0.r15, ts0.k15, ts0.l15, ts0.r16, ts0.k16, ts0.l16, ts0.r17, ts0.k17, ts0.l17, ts0.r18, ts0.k18, ts0.l18, ts0.r19, ts0.k19, ts0.l19, ts0.r20, ts0.k20, ts0.l20, hK_wI, e1, fails_eq ts.k, Nat.reduceEqDiff]
    refine Ok2.some ⟨⟨?_, fun w => ?_⟩, FC.nw0 r, ?_, ⟨o, x, τ, υ, e, el, lw, ((r.nw0 0 6).thr 5 (by omega) _).thr 5 (by omega) _⟩⟩
    · rw [hI_wI, if_pos ⟨rfl, rfl⟩]
    · cases w
    · exact (FT.thr _ _ _ _).trans (FT.thr _ _ _ _)
