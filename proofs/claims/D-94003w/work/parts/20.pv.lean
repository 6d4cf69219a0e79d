/-! PURE V: calls on both sides: would, fault, upper, lower, count -/
set_option maxRecDepth 100000
theorem cS.tf {z : Nat} {h h' : AH} {P : Nat → Prop} (t : tf P h h') (hP : ∀ a, P a → scr z a) : cS z h h' := by
  have s : ∀ a, ¬ P a → sm h h' a := fun a q => ⟨by rw [t.K], by rw [t.L], t.I q, t.J q, by rw [t.R]⟩
  have nz : ¬ P z := fun q => by have := hP z q; unfold scr at this; omega
  have sz := s z nz
  exact ⟨t.1, t.K, t.L, t.R, fun a q => s a (fun w => q (Or.inr (Or.inl (hP a w)))), by rw [sz.2.2.1], by rw [sz.2.2.1], by rw [sz.2.2.1], by rw [sz.2.2.2.1], by rw [sz.2.2.2.1]⟩
theorem FC.tf {z : Nat} {h h' : AH} {P : Nat → Prop} (t : tf P h h') (hP : ∀ a, P a → scr z a) (k : Nat) (v : Int64) : FC z h (wJ h' (z + 495) k v) := by
  have s : ∀ a, ¬ P a → sm h h' a := fun a q => ⟨by rw [t.K], by rw [t.L], t.I q, t.J q, by rw [t.R]⟩
  refine ⟨⟨by rw [hn_wJ, t.1]; omega, by rw [hc_wJ, t.2.1]; omega, by rw [hs_wJ, t.2.2.1]; omega⟩, fun a h1 h2 => (s a (fun w => ?_)).trans (sm_wJ (by omega)), by rw [hK_wJ, t.K], by rw [hL_wJ, t.L]⟩
  have := hP a w
  unfold scr at this
  omega
theorem rm.tf {z : Nat} {h h' : AH} {P : Nat → Prop} (g : rm z h) (t : tf P h h') : rm z h' := by
  unfold rm at g ⊢
  rw [t.2.1, t.2.2.1, t.K, t.L]
  exact g
theorem op_would {z m : Nat} (x1 : Int32) : ∀ hC hT, Rx hC hT z m → rm z hC → Ok2 (F_X0_would hC z x1 (z + 495)) (F_X8_would hT m x1) (fun a b => VI z m a b ∧ FC z hC a.2 ∧ FT m hT b.2 ∧ Rx a.2 b.2 z m) := by
  intro hC hT ⟨o, x, τ, υ, e, el, lw, r⟩ g
  have hn4 := r.c.rg.n
  have cs := r.cs
  have c := r.c
  have hz := r.hz
  have ts0 := r.tn.s
  have tn := r.tn.wm 5 (iI 0)
  have ti := tn.i
  have ts := tn.s
  have hgi := c.rg.i
  have gr : 1 ≤ hc hC ∧ 6 ≤ hs hC := by have := g.1; have := g.2.1; omega
  obtain ⟨s, rfl, hs⟩ := i_ex x1
  have r2 := c.rg.h
  unfold F_X0_would F_X1_would B_X0_would_12 F_X8_would
  have e1 := isStation_eq tn hn4 hs
  have tn2 := tn.wm 23 (iI 0)
  have ti2 := tn2.i
  by_cases q : 0 ≤ s ∧ s ≤ τ 0 - 1
  · rw [b2_t q] at e1
    obtain ⟨v, v0, ⟨⟨w1, w2⟩, u1, u2, u3⟩, v3⟩ := sets_k4 c cs hz r.ow (by omega) (s := s) (y := τ 2) (by omega) (by omega) (since_rng c.rg (by omega))
    have u2 : w1 = iI v := u2
    have u3 : tf (fun a => a = z + 273) hC w2 := u3
    subst u2
    obtain ⟨⟨y1, y2⟩, f1, f2, f3⟩ := v3 _ m tn2 (by rw [hI_wI, if_pos ⟨rfl, rfl⟩]; rfl)
    have f2 : y1 = iI v := f2
    have f3 : tf (fun a => a = m + 9) (wI (wI hT m 5 (iI 0)) m 23 (iI 0)) y2 := f3
    subst f2
    have g2 := g.tf u3
    simp (disch := omega) only [i_lit, i_neg, i_add, i_sub, i_mul, i_ofNat, i_div, i_le, i_lt, i_eq, i_ix, i_inb, i_max, i_min, e_rem, j_lit, j_i, Int.reduceToNat, Int.reduceAdd, Int.reduceSub, Int.reduceMul, Int.reduceNeg, Int.reduceLT, Int.reduceLE, Int.reduceEq, gd_t, gd_T, bd_t, lh_t, on_s, on_n, ec_l, ec_r, if_true, if_false, true_and, and_true, false_and, and_false, true_or, or_true, false_or, or_false, Bool.false_eq_true, b2i_0, b2i_1, bl_0, bl_1, bl_b2, not_true_eq_false, not_false_eq_true, cs.k, stationOf_t c cs hz q, cs.r271, hz, c.k, c.i9, u1, g2.2.2.1, g2.2.2.2.1, hK_wI, hL_wI, hR_wI, ts0.k, ts0.r1, ts0.k1, ts0.l1, ts0.r2, ts0.k2, ts0.l2, ts0.r3, ts0.k3, ts0.l3, ts0.r4, ts0.k4, ts0.l4, ts0.r5, ts0.k5, ts0.l5, ts0.r6, ts0.k6, ts0.l6, ts0.r7, ts0.k7, ts0.l7, ts0.r8, ts0.k8, ts0.l8, ts0.r9, ts0.k9, ts0.l9, ts0.r10, ts0.k10, ts0.l10, ts0.r11, ts0.k11, ts0.l11, ts0.r12, ts0.k12, ts0.l12, ts0.r13, ts0.k13, ts0.l13, ts0.r14, ts0.k14, ts0.l14, ts0.r15, ts0.k15, ts0.l15, ts0.r16, ts0.k16, ts0.l16, ts0.r17, ts0.k17, ts0.l17, ts0.r18, ts0.k18, ts0.l18, ts0.r19, ts0.k19, ts0.l19, ts0.r20, ts0.k20, ts0.l20, e1, ti2, f1]
    have P1 : ∀ a, a = z + 273 → scr z a := fun a w => by unfold scr; omega
    have rr := (((r.scC g.2.2.2.2 (cS.tf u3 P1)).out g2 0 (jI v)).thr 5 (by omega) (iI 0)).thr 23 (by omega) (iI 0)
    refine Ok2.some ⟨⟨?_, fun _ => ?_⟩, FC.tf u3 P1 _ _, ((FT.thr _ _ _ _).trans (FT.thr _ _ _ _)).trans (f3.mono (fun a w => by omega)), ⟨o, x, τ, υ, e, el, lw, rr.scT ?_⟩⟩
    · rw [f3.I (by omega), hI_wI, if_neg (by omega), hI_wI, if_pos ⟨rfl, rfl⟩]
    · rw [hJ_wJ, if_pos ⟨rfl, rfl⟩]; exact (j_i (by omega)).symm
    · exact ⟨tn2.s.tf f3, fun a w => ⟨f3.I (by omega), f3.J (by omega)⟩, by rw [f3.I (by omega)], by rw [f3.I (by omega)], by rw [f3.I (by omega)], by rw [f3.J (by omega)], by rw [f3.J (by omega)]⟩
  · rw [b2_f q] at e1
    simp (disch := omega) only [i_lit, i_neg, i_add, i_sub, i_mul, i_ofNat, i_div, i_le, i_lt, i_eq, i_ix, i_inb, i_max, i_min, e_rem, j_lit, j_i, Int.reduceToNat, Int.reduceAdd, Int.reduceSub, Int.reduceMul, Int.reduceNeg, Int.reduceLT, Int.reduceLE, Int.reduceEq, gd_t, gd_T, bd_t, lh_t, on_s, on_n, ec_l, ec_r, if_true, if_false, true_and, and_true, false_and, and_false, true_or, or_true, false_or, or_false, Bool.false_eq_true, b2i_0, b2i_1, bl_0, bl_1, bl_b2, not_true_eq_false, not_false_eq_true, cs.k, stationOf_f c cs hz hs q gr, ts0.k, ts0.r1, ts0.k1, ts0.l1, ts0.r2, ts0.k2, ts0.l2, ts0.r3, ts0.k3, ts0.l3, ts0.r4, ts0.k4, ts0.l4, ts0.r5, ts0.k5, ts0.l5, ts0.r6, ts0.k6, ts0.l6, ts0.r7, ts0.k7, ts0.l7, ts0.r8, ts0.k8, ts0.l8, ts0.r9, ts0.k9, ts0.l9, ts0.r10, ts0.k10, ts0.l10, ts0.r11, ts0.k11, ts0.l11, ts0.r12, ts0.k12, ts0.l12, ts0.r13, ts0.k13, ts0.l13, ts0.r14, ts0.k14, ts0.l14, ts0.r15, ts0.k15, ts0.l15, ts0.r16, ts0.k16, ts0.l16, ts0.r17, ts0.k17, ts0.l17, ts0.r18, ts0.k18, ts0.l18, ts0.r19, ts0.k19, ts0.l19, ts0.r20, ts0.k20, ts0.l20, hK_wI, e1, fails_eq ts.k, Nat.reduceEqDiff]
    exact Ok2.some ⟨⟨by rw [hI_wI, if_pos ⟨rfl, rfl⟩], fun w => by cases w⟩, FC.nw0 r, (FT.thr _ _ _ _).trans (FT.thr _ _ _ _), ⟨o, x, τ, υ, e, el, lw, ((r.nw0 0 6).thr 5 (by omega) _).thr 5 (by omega) _⟩⟩
/-- a call that is compared at once -/
def VE {α : Type} (a b : α × AH) : Prop := a.1 = b.1
theorem FC.rfl (z : Nat) (h : AH) : FC z h h := ⟨⟨Nat.le_refl _, by omega, by omega⟩, fun a _ _ => sm.rfl h a, Eq.refl _, Eq.refl _⟩
theorem op_fault {z m : Nat} (x1 : Int32) : ∀ hC hT, Rx hC hT z m → rm z hC → Ok2 (Option.bind (F_X1_fault hC z x1) fun v => some (v, hC)) (F_X8_fault hT m x1) (fun a b => VE a b ∧ FC z hC a.2 ∧ FT m hT b.2 ∧ Rx a.2 b.2 z m) := by
  intro hC hT ⟨o, x, τ, υ, e, el, lw, r⟩ g
  have hn4 := r.c.rg.n
  have cs := r.cs
  have c := r.c
  have hz := r.hz
  have ts0 := r.tn.s
  have tn := r.tn.wm 5 (iI 0)
  have ti := tn.i
  have ts := tn.s
  have hgi := c.rg.i
  have gr : 1 ≤ hc hC ∧ 6 ≤ hs hC := by have := g.1; have := g.2.1; omega
  obtain ⟨s, rfl, hs⟩ := i_ex x1
  have R : Rx hC (wI hT m 5 (iI 0)) z m := ⟨o, x, τ, υ, e, el, lw, r.thr 5 (by omega) _⟩
  have f4 := r.f4
  have f5 := r.f5
  have e4 : hI (wI hT m 5 (iI 0)) m 18 = hI hT m 18 := by rw [hI_wI, if_neg (by omega)]
  have e5 : hI (wI hT m 5 (iI 0)) m 19 = hI hT m 19 := by rw [hI_wI, if_neg (by omega)]
  unfold F_X1_fault B_X1_fault_24 F_X8_fault B_X8_fault_29
  by_cases q0 : s = 0
  · simp (disch := omega) only [i_lit, i_neg, i_add, i_sub, i_mul, i_ofNat, i_div, i_le, i_lt, i_eq, i_ix, i_inb, i_max, i_min, e_rem, j_lit, j_i, Int.reduceToNat, Int.reduceAdd, Int.reduceSub, Int.reduceMul, Int.reduceNeg, Int.reduceLT, Int.reduceLE, Int.reduceEq, gd_t, gd_T, bd_t, lh_t, on_s, on_n, ec_l, ec_r, if_true, if_false, true_and, and_true, false_and, and_false, true_or, or_true, false_or, or_false, Bool.false_eq_true, b2i_0, b2i_1, bl_0, bl_1, bl_b2, not_true_eq_false, not_false_eq_true, q0, cs.k, ts0.k, ts0.r1, ts0.k1, ts0.l1, ts0.r2, ts0.k2, ts0.l2, ts0.r3, ts0.k3, ts0.l3, ts0.r4, ts0.k4, ts0.l4, ts0.r5, ts0.k5, ts0.l5, ts0.r6, ts0.k6, ts0.l6, ts0.r7, ts0.k7, ts0.l7, ts0.r8, ts0.k8, ts0.l8, ts0.r9, ts0.k9, ts0.l9, ts0.r10, ts0.k10, ts0.l10, ts0.r11, ts0.k11, ts0.l11, ts0.r12, ts0.k12, ts0.l12, ts0.r13, ts0.k13, ts0.l13, ts0.r14, ts0.k14, ts0.l14, ts0.r15, ts0.k15, ts0.l15, ts0.r16, ts0.k16, ts0.l16, ts0.r17, ts0.k17, ts0.l17, ts0.r18, ts0.k18, ts0.l18, ts0.r19, ts0.k19, ts0.l19, ts0.r20, ts0.k20, ts0.l20, hK_wI, e4, f4]
    exact Ok2.some ⟨rfl, FC.rfl _ _, FT.thr _ _ _ _, R⟩
  · by_cases q1 : s = 1
    · simp (disch := omega) only [i_lit, i_neg, i_add, i_sub, i_mul, i_ofNat, i_div, i_le, i_lt, i_eq, i_ix, i_inb, i_max, i_min, e_rem, j_lit, j_i, Int.reduceToNat, Int.reduceAdd, Int.reduceSub, Int.reduceMul, Int.reduceNeg, Int.reduceLT, Int.reduceLE, Int.reduceEq, gd_t, gd_T, bd_t, lh_t, on_s, on_n, ec_l, ec_r, if_true, if_false, true_and, and_true, false_and, and_false, true_or, or_true, false_or, or_false, Bool.false_eq_true, b2i_0, b2i_1, bl_0, bl_1, bl_b2, not_true_eq_false, not_false_eq_true, q0, q1, cs.k, ts0.k, ts0.r1, ts0.k1, ts0.l1, ts0.r2, ts0.k2, ts0.l2, ts0.r3, ts0.k3, ts0.l3, ts0.r4, ts0.k4, ts0.l4, ts0.r5, ts0.k5, ts0.l5, ts0.r6, ts0.k6, ts0.l6, ts0.r7, ts0.k7, ts0.l7, ts0.r8, ts0.k8, ts0.l8, ts0.r9, ts0.k9, ts0.l9, ts0.r10, ts0.k10, ts0.l10, ts0.r11, ts0.k11, ts0.l11, ts0.r12, ts0.k12, ts0.l12, ts0.r13, ts0.k13, ts0.l13, ts0.r14, ts0.k14, ts0.l14, ts0.r15, ts0.k15, ts0.l15, ts0.r16, ts0.k16, ts0.l16, ts0.r17, ts0.k17, ts0.l17, ts0.r18, ts0.k18, ts0.l18, ts0.r19, ts0.k19, ts0.l19, ts0.r20, ts0.k20, ts0.l20, hK_wI, e5, f5]
      exact Ok2.some ⟨rfl, FC.rfl _ _, FT.thr _ _ _ _, R⟩
    · simp (disch := omega) only [i_lit, i_neg, i_add, i_sub, i_mul, i_ofNat, i_div, i_le, i_lt, i_eq, i_ix, i_inb, i_max, i_min, e_rem, j_lit, j_i, Int.reduceToNat, Int.reduceAdd, Int.reduceSub, Int.reduceMul, Int.reduceNeg, Int.reduceLT, Int.reduceLE, Int.reduceEq, gd_t, gd_T, bd_t, lh_t, on_s, on_n, ec_l, ec_r, if_true, if_false, true_and, and_true, false_and, and_false, true_or, or_true, false_or, or_false, Bool.false_eq_true, b2i_0, b2i_1, bl_0, bl_1, bl_b2, not_true_eq_false, not_false_eq_true, q0, q1, cs.k, ts0.k, ts0.r1, ts0.k1, ts0.l1, ts0.r2, ts0.k2, ts0.l2, ts0.r3, ts0.k3, ts0.l3, ts0.r4, ts0.k4, ts0.l4, ts0.r5, ts0.k5, ts0.l5, ts0.r6, ts0.k6, ts0.l6, ts0.r7, ts0.k7, ts0.l7, ts0.r8, ts0.k8, ts0.l8, ts0.r9, ts0.k9, ts0.l9, ts0.r10, ts0.k10, ts0.l10, ts0.r11, ts0.k11, ts0.l11, ts0.r12, ts0.k12, ts0.l12, ts0.r13, ts0.k13, ts0.l13, ts0.r14, ts0.k14, ts0.l14, ts0.r15, ts0.k15, ts0.l15, ts0.r16, ts0.k16, ts0.l16, ts0.r17, ts0.k17, ts0.l17, ts0.r18, ts0.k18, ts0.l18, ts0.r19, ts0.k19, ts0.l19, ts0.r20, ts0.k20, ts0.l20, hK_wI]
      exact Ok2.some ⟨rfl, FC.rfl _ _, FT.thr _ _ _ _, R⟩
theorem op_upper {z m : Nat} : ∀ hC hT, Rx hC hT z m → rm z hC → Ok2 (Option.bind (F_X1_upper hC z) fun v => some (v, hC)) (F_X8_upper hT m) (fun a b => VE a b ∧ FC z hC a.2 ∧ FT m hT b.2 ∧ Rx a.2 b.2 z m) := by
  intro hC hT ⟨o, x, τ, υ, e, el, lw, r⟩ g
  have hn4 := r.c.rg.n
  have cs := r.cs
  have c := r.c
  have hz := r.hz
  have ts0 := r.tn.s
  have tn := r.tn.wm 5 (iI 0)
  have ti := tn.i
  have ts := tn.s
  have hgi := c.rg.i
  have gr : 1 ≤ hc hC ∧ 6 ≤ hs hC := by have := g.1; have := g.2.1; omega
  have R : Rx hC (wI hT m 5 (iI 0)) z m := ⟨o, x, τ, υ, e, el, lw, r.thr 5 (by omega) _⟩
  unfold F_X1_upper F_X8_upper
  simp (disch := omega) only [i_lit, i_neg, i_add, i_sub, i_mul, i_ofNat, i_div, i_le, i_lt, i_eq, i_ix, i_inb, i_max, i_min, e_rem, j_lit, j_i, Int.reduceToNat, Int.reduceAdd, Int.reduceSub, Int.reduceMul, Int.reduceNeg, Int.reduceLT, Int.reduceLE, Int.reduceEq, gd_t, gd_T, bd_t, lh_t, on_s, on_n, ec_l, ec_r, if_true, if_false, true_and, and_true, false_and, and_false, true_or, or_true, false_or, or_false, Bool.false_eq_true, b2i_0, b2i_1, bl_0, bl_1, bl_b2, not_true_eq_false, not_false_eq_true, cs.k, ts0.k, ts0.r1, ts0.k1, ts0.l1, ts0.r2, ts0.k2, ts0.l2, ts0.r3, ts0.k3, ts0.l3, ts0.r4, ts0.k4, ts0.l4, ts0.r5, ts0.k5, ts0.l5, ts0.r6, ts0.k6, ts0.l6, ts0.r7, ts0.k7, ts0.l7, ts0.r8, ts0.k8, ts0.l8, ts0.r9, ts0.k9, ts0.l9, ts0.r10, ts0.k10, ts0.l10, ts0.r11, ts0.k11, ts0.l11, ts0.r12, ts0.k12, ts0.l12, ts0.r13, ts0.k13, ts0.l13, ts0.r14, ts0.k14, ts0.l14, ts0.r15, ts0.k15, ts0.l15, ts0.r16, ts0.k16, ts0.l16, ts0.r17, ts0.k17, ts0.l17, ts0.r18, ts0.k18, ts0.l18, ts0.r19, ts0.k19, ts0.l19, ts0.r20, ts0.k20, ts0.l20, hK_wI, hJ_wI, r.j11]
  exact Ok2.some ⟨rfl, FC.rfl _ _, FT.thr _ _ _ _, R⟩
theorem op_lower {z m : Nat} : ∀ hC hT, Rx hC hT z m → rm z hC → Ok2 (Option.bind (F_X1_lower hC z) fun v => some (v, hC)) (F_X8_lower hT m) (fun a b => VE a b ∧ FC z hC a.2 ∧ FT m hT b.2 ∧ Rx a.2 b.2 z m) := by
  intro hC hT ⟨o, x, τ, υ, e, el, lw, r⟩ g
  have hn4 := r.c.rg.n
  have cs := r.cs
  have c := r.c
  have hz := r.hz
  have ts0 := r.tn.s
  have tn := r.tn.wm 5 (iI 0)
  have ti := tn.i
  have ts := tn.s
  have hgi := c.rg.i
  have gr : 1 ≤ hc hC ∧ 6 ≤ hs hC := by have := g.1; have := g.2.1; omega
  have R : Rx hC (wI hT m 5 (iI 0)) z m := ⟨o, x, τ, υ, e, el, lw, r.thr 5 (by omega) _⟩
  unfold F_X1_lower F_X8_lower
  simp (disch := omega) only [i_lit, i_neg, i_add, i_sub, i_mul, i_ofNat, i_div, i_le, i_lt, i_eq, i_ix, i_inb, i_max, i_min, e_rem, j_lit, j_i, Int.reduceToNat, Int.reduceAdd, Int.reduceSub, Int.reduceMul, Int.reduceNeg, Int.reduceLT, Int.reduceLE, Int.reduceEq, gd_t, gd_T, bd_t, lh_t, on_s, on_n, ec_l, ec_r, if_true, if_false, true_and, and_true, false_and, and_false, true_or, or_true, false_or, or_false, Bool.false_eq_true, b2i_0, b2i_1, bl_0, bl_1, bl_b2, not_true_eq_false, not_false_eq_true, cs.k, ts0.k, ts0.r1, ts0.k1, ts0.l1, ts0.r2, ts0.k2, ts0.l2, ts0.r3, ts0.k3, ts0.l3, ts0.r4, ts0.k4, ts0.l4, ts0.r5, ts0.k5, ts0.l5, ts0.r6, ts0.k6, ts0.l6, ts0.r7, ts0.k7, ts0.l7, ts0.r8, ts0.k8, ts0.l8, ts0.r9, ts0.k9, ts0.l9, ts0.r10, ts0.k10, ts0.l10, ts0.r11, ts0.k11, ts0.l11, ts0.r12, ts0.k12, ts0.l12, ts0.r13, ts0.k13, ts0.l13, ts0.r14, ts0.k14, ts0.l14, ts0.r15, ts0.k15, ts0.l15, ts0.r16, ts0.k16, ts0.l16, ts0.r17, ts0.k17, ts0.l17, ts0.r18, ts0.k18, ts0.l18, ts0.r19, ts0.k19, ts0.l19, ts0.r20, ts0.k20, ts0.l20, hK_wI, hJ_wI, r.j12]
  exact Ok2.some ⟨rfl, FC.rfl _ _, FT.thr _ _ _ _, R⟩
theorem op_count {z m : Nat} (x1 : Int32) : ∀ hC hT, Rx hC hT z m → rm z hC → Ok2 (Option.bind (F_X1_count hC z x1) fun v => some (v, hC)) (F_X8_count hT m x1) (fun a b => VE a b ∧ FC z hC a.2 ∧ FT m hT b.2 ∧ Rx a.2 b.2 z m) := by
  intro hC hT ⟨o, x, τ, υ, e, el, lw, r⟩ g
  have hn4 := r.c.rg.n
  have cs := r.cs
  have c := r.c
  have hz := r.hz
  have ts0 := r.tn.s
  have tn := r.tn.wm 5 (iI 0)
  have ti := tn.i
  have ts := tn.s
  have hgi := c.rg.i
  have gr : 1 ≤ hc hC ∧ 6 ≤ hs hC := by have := g.1; have := g.2.1; omega
  obtain ⟨s, rfl, hs⟩ := i_ex x1
  obtain ⟨T, t1, t2, t3, t4⟩ := r.tp
  have R : Rx hC (wI hT m 5 (iI 0)) z m := ⟨o, x, τ, υ, e, el, lw, r.thr 5 (by omega) _⟩
  have r2 := c.rg.h
  have tj : hJ (wI hT m 5 (iI 0)) (m + 3) 8 = υ 8 := r.tj 8
  have e9 : hI (wI hT m 5 (iI 0)) m 9 = iI T := by rw [hI_wI, if_neg (by omega)]; exact t3
  unfold F_X1_count F_X8_count
  by_cases q : 0 ≤ s ∧ s ≤ 9
  · rcases (show s = 0 ∨ s = 1 ∨ s = 2 ∨ s = 3 ∨ s = 4 ∨ s = 5 ∨ s = 6 ∨ s = 7 ∨ s = 8 ∨ s = 9 by omega) with rfl | rfl | rfl | rfl | rfl | rfl | rfl | rfl | rfl | rfl
    all_goals
      simp (disch := omega) only [i_lit, i_neg, i_add, i_sub, i_mul, i_ofNat, i_div, i_le, i_lt, i_eq, i_ix, i_inb, i_max, i_min, e_rem, j_lit, j_i, Int.reduceToNat, Int.reduceAdd, Int.reduceSub, Int.reduceMul, Int.reduceNeg, Int.reduceLT, Int.reduceLE, Int.reduceEq, gd_t, gd_T, bd_t, lh_t, on_s, on_n, ec_l, ec_r, if_true, if_false, true_and, and_true, false_and, and_false, true_or, or_true, false_or, or_false, Bool.false_eq_true, b2i_0, b2i_1, bl_0, bl_1, bl_b2, not_true_eq_false, not_false_eq_true, cs.k, hz, c.k, many_eq c, c.r1, c.r2, c.r3, c.r4, c.a1.k, c.a2.k, c.a3.k, c.a4.k, size_eq c.a1, size_eq c.a2, size_eq c.a3, size_eq c.a4, c.i9, c.i10, c.j11, t2, ts0.k, ts0.r1, ts0.k1, ts0.l1, ts0.r3, ts0.k3, ts0.l3, hK_wI, hL_wI, hR_wI, ti, tj, e9]
      exact Ok2.some ⟨rfl, FC.rfl _ _, FT.thr _ _ _ _, R⟩
  · have n0 : ¬ s = 0 := by omega
    have n1 : ¬ s = 1 := by omega
    have n2 : ¬ s = 2 := by omega
    have n3 : ¬ s = 3 := by omega
    have n4 : ¬ s = 4 := by omega
    have n5 : ¬ s = 5 := by omega
    have n6 : ¬ s = 6 := by omega
    have n7 : ¬ s = 7 := by omega
    have n8 : ¬ s = 8 := by omega
    have n9 : ¬ s = 9 := by omega
    simp (disch := omega) only [i_lit, i_neg, i_add, i_sub, i_mul, i_ofNat, i_div, i_le, i_lt, i_eq, i_ix, i_inb, i_max, i_min, e_rem, j_lit, j_i, Int.reduceToNat, Int.reduceAdd, Int.reduceSub, Int.reduceMul, Int.reduceNeg, Int.reduceLT, Int.reduceLE, Int.reduceEq, gd_t, gd_T, bd_t, lh_t, on_s, on_n, ec_l, ec_r, if_true, if_false, true_and, and_true, false_and, and_false, true_or, or_true, false_or, or_false, Bool.false_eq_true, b2i_0, b2i_1, bl_0, bl_1, bl_b2, not_true_eq_false, not_false_eq_true, n0, n1, n2, n3, n4, n5, n6, n7, n8, n9, ts0.k]
    exact Ok2.some ⟨rfl, FC.rfl _ _, FT.thr _ _ _ _, R⟩
