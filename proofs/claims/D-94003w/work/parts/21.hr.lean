/-! PURE HR: cost, the call -/
set_option maxRecDepth 100000
def shT (τ : Nat → Int) (k i : Nat) : Int := if 3149 ≤ i ∧ i < k then τ (i + 3) else τ i
theorem shiftT {g0 : AH} {m : Nat} {τ : Nat → Int} (t0 : TN g0 m τ) (a b : Int32) {E : Option AH → Prop} (H : ∀ g', TN g' m (shT τ 3176) → tf (fun x => x = m + 1) g0 g' → E (B_X8_keepsChange_43 g' m a b)) : E (G_X8_keepsChange_16 g0 m a b (iI 3149)) := by
  unfold G_X8_keepsChange_16
  refine lp_end (E := E) (fun st k => ∃ (g : AH) (i : Nat), st = (g, m, a, b, iI i) ∧ 3149 ≤ i ∧ i ≤ 3176 ∧ k = 3176 - i ∧ TN g m (shT τ i) ∧ tf (fun x => x = m + 1) g0 g) ?_ fuel 27 _ ⟨g0, 3149, rfl, by omega, by omega, rfl, ⟨t0.s, fun i => by rw [t0.i i]; unfold shT; rw [if_neg (by omega)], fun i => by unfold shT; rw [if_neg (by omega)]; exact t0.g i⟩, tf.rfl⟩ (lt_fuel (by omega))
  rintro self st k ⟨g, i, rfl, h1, h2, rfl, t, T⟩ ih
  have ts := t.s
  have ti := t.i
  unfold L_X8_keepsChange_16
  by_cases ho : 3176 ≤ (i : Int)
  · have : i = 3176 := by omega
    subst this
    have hoT : (3176 ≤ ((3176 : Nat) : Int)) = True := eq_true (by omega)
    simp (disch := omega) only [i_lit, i_neg, i_add, i_sub, i_mul, i_ofNat, i_div, i_le, i_lt, i_eq, i_ix, i_inb, i_max, i_min, e_rem, j_lit, j_i, Int.reduceToNat, Int.reduceAdd, Int.reduceSub, Int.reduceMul, Int.reduceNeg, Int.reduceLT, Int.reduceLE, Int.reduceEq, gd_t, gd_T, ↓bd_m, ↓lh_t, ↓on_m, ↓ec_m, ↓reduceIte, if_true, if_false, true_and, and_true, false_and, and_false, true_or, or_true, false_or, or_false, Bool.false_eq_true, b2i_0, b2i_1, bl_0, bl_1, bl_b2, not_true_eq_false, not_false_eq_true, B_X8_keepsChange_16, hoT]
    exact H g t T
  · have y : ((i : Int) + 3).toNat = i + 3 := by omega
    have v : shT τ i (i + 3) = τ (i + 3) := by unfold shT; rw [if_neg (by omega)]
    have tS := t.set i (v := τ (i + 3)) (t0.g _)
    have eq : upT (shT τ i) i (τ (i + 3)) = shT τ (i + 1) := by
      funext j
      unfold upT shT
      by_cases q : j = i
      · rw [if_pos q, if_pos (by omega), q]
      · rw [if_neg q]
        by_cases q2 : 3149 ≤ j ∧ j < i
        · rw [if_pos q2, if_pos (by omega)]
        · rw [if_neg q2, if_neg (by omega)]
    rw [eq] at tS
    have nx := ih (wI g (m + 1) i (iI (τ (i + 3))), m, a, b, iI ((i + 1 : Nat) : Int)) (3176 - (i + 1)) (by omega) ⟨_, i + 1, rfl, by omega, by omega, rfl, tS, T.trans (tf_wI rfl)⟩
    rw [show (((i + 1 : Nat)) : Int) = (i : Int) + 1 by omega] at nx
    simp (disch := omega) only [i_lit, i_neg, i_add, i_sub, i_mul, i_ofNat, i_div, i_le, i_lt, i_eq, i_ix, i_inb, i_max, i_min, e_rem, j_lit, j_i, Int.reduceToNat, Int.reduceAdd, Int.reduceSub, Int.reduceMul, Int.reduceNeg, Int.reduceLT, Int.reduceLE, Int.reduceEq, gd_t, gd_T, ↓bd_m, ↓lh_t, ↓on_m, ↓ec_m, ↓reduceIte, if_true, if_false, true_and, and_true, false_and, and_false, true_or, or_true, false_or, or_false, Bool.false_eq_true, b2i_0, b2i_1, bl_0, bl_1, bl_b2, not_true_eq_false, not_false_eq_true, B_X8_keepsChange_16, B_X8_keepsChange_37, ho, ts.k, ts.r1, ts.k1, ts.l1, ts.r2, ts.k2, ts.l2, ts.r3, ts.k3, ts.l3, ts.r4, ts.k4, ts.l4, ts.r5, ts.k5, ts.l5, ts.r6, ts.k6, ts.l6, ts.r7, ts.k7, ts.l7, ts.r8, ts.k8, ts.l8, ts.r9, ts.k9, ts.l9, ts.r10, ts.k10, ts.l10, ts.r11, ts.k11, ts.l11, ts.r12, ts.k12, ts.l12, ts.r13, ts.k13, ts.l13, ts.r14, ts.k14, ts.l14, ts.r15, ts.k15, ts.l15, ts.r16, ts.k16, ts.l16, ts.r17, ts.k17, ts.l17, ts.r18, ts.k18, ts.l18, ts.r19, ts.k19, ts.l19, ts.r20, ts.k20, ts.l20, ti, y, v, Int.toNat_natCast]
    exact nx
theorem init11 {h : AH} {a : Nat} (k : hK h a = 11) (x1 x2 x3 : Int32) : F_X11_init h a x1 x2 x3 = some (wI (wI (wI h a 0 x1) a 1 x2) a 2 x3) := by
  unfold F_X11_init B_X11_init_9 B_X11_init_14
  simp (disch := omega) only [i_lit, i_neg, i_add, i_sub, i_mul, i_ofNat, i_div, i_le, i_lt, i_eq, i_ix, i_inb, i_max, i_min, e_rem, j_lit, j_i, Int.reduceToNat, Int.reduceAdd, Int.reduceSub, Int.reduceMul, Int.reduceNeg, Int.reduceLT, Int.reduceLE, Int.reduceEq, gd_t, gd_T, ↓bd_m, ↓lh_t, ↓on_m, ↓ec_m, ↓reduceIte, if_true, if_false, true_and, and_true, false_and, and_false, true_or, or_true, false_or, or_false, Bool.false_eq_true, b2i_0, b2i_1, bl_0, bl_1, bl_b2, not_true_eq_false, not_false_eq_true, k, hK_wI]
/-- a change is kept on both sides -/
theorem cost_end {o : Nat → Nat} {hC hT : AH} {z m x : Nat} {τ : Nat → Int} {υ : Nat → Int64} {e : Nat → Nat} {el : Nat → Nat → Nat} {lw : Nat} (r : RL o hC hT z m x τ υ e el lw) (hc_ : 2 ≤ hc hC ∧ 300 ≤ hs hC) (gm : ∀ a, z + 474 ≤ a → a ≤ z + 495 → ¬ imK (hK hC a)) (h10 : τ 6 < 10) {s v was : Int} (hs_ : 0 ≤ s ∧ s < 4) (hd : -99 ≤ v - was ∧ v - was ≤ 99) : Ok2 (B_X1_cost_65 hC z (iI s) (iI v) (iI was)) (B_X8_keepsChange_54 hT m (iI s) (iI (v - was))) (fun a b => ∃ hC', a = .inl (iI was, hC') ∧ Rx hC' b z m ∧ (∀ u, z + 474 ≤ u → u ≤ z + 495 → sm hC hC' u) ∧ (hn hC ≤ hn hC' ∧ hc hC ≤ hc hC' + 2 ∧ hs hC ≤ hs hC' + 203) ∧ tf (fun u => u = m + 1) hT b) := by
  have c := r.c
  have cs := r.cs
  have hz := r.hz
  have hn4 := c.rg.n
  have hc10 := c.rg.c
  have hh3 := c.rg.h
  have hnz := r.hnz
  have hm := r.m
  have tn := r.tn
  have ts := tn.s
  have ti := tn.i
  obtain ⟨n, hn6⟩ := Int.eq_ofNat_of_zero_le hc10.1
  have lt : ∀ u, o u ≠ 0 → u < hn hC := fun u ha => Nat.lt_of_not_le fun q => ha (r.ho u q).2
  have lx : x < hn hC := lt x (by have := c.ox 0 (by omega) (by omega); rw [Nat.add_zero] at this; omega)
  have lx3 := lt (x + 3) (by rw [c.ox 3 (by omega) (by omega)]; omega)
  have kn : hK (nw hC 11 0 3) (hn hC) = 11 := by rw [hK_nw, if_pos rfl]
  generalize hH : wI (wI (wI (nw hC 11 0 3) (hn hC) 0 (iI s)) (hn hC) 1 (iI (τ 2))) (hn hC) 2 (iI (v - was)) = hD
  have sD : ∀ a, a ≠ hn hC → sm hC hD a := fun a ha => by rw [← hH]; exact (sm_nw ha).trans ((sm_wI ha).trans ((sm_wI ha).trans (sm_wI ha)))
  have kD : hK hD (hn hC) = 11 := by rw [← hH]; exact kn
  have nD : hn hD = hn hC + 1 := by rw [← hH]; rfl
  have cD : hc hD = hc hC - 1 := by rw [← hH]; rfl
  have sD2 : hs hD = hs hC - 3 := by rw [← hH]; rfl
  have d3 : ∀ a, hn hD ≤ a → hK hD a = 0 := fun a ha => by rw [(sD a (by omega)).1]; exact (r.ho a (by omega)).1
  have d4 : ∀ a, hn hC ≤ a → hK hD a ≠ 120 := fun a ha => by
    by_cases q : a = hn hC
    · rw [q, kD]; omega
    · rw [d3 a (by omega)]; omega
  obtain ⟨hC', e', h1, h2, h3, h4⟩ := r.call2 (hD := hD) (D := hn hC) ⟨Nat.le_refl _, by omega⟩ (fun a ha => sD a (by omega)) d3 (by rw [kD]; unfold okE; omega) (by omega)
  have h2' := h2
  obtain ⟨w1, w2, w3, w4, w5, w6, w7, w8, w9, w10, w11, w12, w13, w14, w15⟩ := h2
  have ke : hK hC (e 2) = 108 ∨ hK hC (e 2) = 120 := by rcases c.a2.c with w | w <;> omega
  have le2 : e 2 < hn hC := Nat.lt_of_not_le fun q => by have := (r.ho _ q).1; omega
  have sDD : sm hD hC' (hn hC) := w10 (hn hC) (by omega) (by omega) (by omega)
  have kzN : hK (nw hC 11 0 3) z = 1 := by rw [hK_nw, if_neg (by omega)]; exact cs.k
  have rzN : hR (nw hC 11 0 3) z 0 = some x := by rw [hR_nw, if_neg (by omega)]; exact hz
  have kxN : hK (nw hC 11 0 3) x = 2 := by rw [hK_nw, if_neg (by omega)]; exact c.k
  have ixN : hI (nw hC 11 0 3) x 9 = iI (τ 2) := by rw [hI_nw, if_neg (by omega)]; exact c.i9
  have k3D : hK hD (x + 3) = 32 := by rw [(sD _ (by omega)).1]; exact c.a2.k
  have sW : ∀ u, z + 474 ≤ u → u ≤ z + 495 → sm hC hC' u := fun u q1 q2 => h3 u (by omega) (by rw [r.ow u (Or.inr ⟨by omega, by omega⟩)]; omega)
  have g3 : 1 ≤ hc hC ∧ 3 ≤ hs hC := by omega
  have y0 : (3149 + 3 * τ 6).toNat = 3149 + 3 * n := by omega
  have y1 : (3149 + 3 * τ 6 + 1).toNat = 3150 + 3 * n := by omega
  have y2 : (3149 + 3 * τ 6 + 2).toNat = 3151 + 3 * n := by omega
  have cC : B_X1_cost_65 hC z (iI s) (iI v) (iI was) = some (.inl (iI was, hC')) := by
    simp (disch := omega) only [i_lit, i_neg, i_add, i_sub, i_mul, i_ofNat, i_div, i_le, i_lt, i_eq, i_ix, i_inb, i_max, i_min, e_rem, j_lit, j_i, Int.reduceToNat, Int.reduceAdd, Int.reduceSub, Int.reduceMul, Int.reduceNeg, Int.reduceLT, Int.reduceLE, Int.reduceEq, gd_t, gd_T, ↓bd_m, ↓lh_t, ↓on_m, ↓ec_m, ↓reduceIte, if_true, if_false, true_and, and_true, false_and, and_false, true_or, or_true, false_or, or_false, Bool.false_eq_true, b2i_0, b2i_1, bl_0, bl_1, bl_b2, not_true_eq_false, not_false_eq_true, B_X1_cost_65, cs.k, hz, c.k, c.r2, g3, kzN, rzN, kxN, ixN, init11 kn, hH, k3D, h1]
  rw [cC]
  simp (disch := omega) only [i_lit, i_neg, i_add, i_sub, i_mul, i_ofNat, i_div, i_le, i_lt, i_eq, i_ix, i_inb, i_max, i_min, e_rem, j_lit, j_i, Int.reduceToNat, Int.reduceAdd, Int.reduceSub, Int.reduceMul, Int.reduceNeg, Int.reduceLT, Int.reduceLE, Int.reduceEq, gd_t, gd_T, ↓bd_m, ↓on_m, ↓ec_m, ↓reduceIte, if_true, if_false, true_and, and_true, false_and, and_false, true_or, or_true, false_or, or_false, Bool.false_eq_true, b2i_0, b2i_1, bl_0, bl_1, bl_b2, not_true_eq_false, not_false_eq_true, B_X8_keepsChange_54, ts.k, ts.r1, ts.k1, ts.l1, ts.r2, ts.k2, ts.l2, ts.r3, ts.k3, ts.l3, ts.r4, ts.k4, ts.l4, ts.r5, ts.k5, ts.l5, ts.r6, ts.k6, ts.l6, ts.r7, ts.k7, ts.l7, ts.r8, ts.k8, ts.l8, ts.r9, ts.k9, ts.l9, ts.r10, ts.k10, ts.l10, ts.r11, ts.k11, ts.l11, ts.r12, ts.k12, ts.l12, ts.r13, ts.k13, ts.l13, ts.r14, ts.k14, ts.l14, ts.r15, ts.k15, ts.l15, ts.r16, ts.k16, ts.l16, ts.r17, ts.k17, ts.l17, ts.r18, ts.k18, ts.l18, ts.r19, ts.k19, ts.l19, ts.r20, ts.k20, ts.l20, ti, y0]
  refine Ok2.fwT (P := fun a => a = m + 1) tn (v := s) (by omega) tf.rfl rfl (fun g1 t1 T1 j1 => ?_)
  have s1_ := t1.s
  have i2 := t1.i 2
  rw [upT_o (by omega)] at i2
  simp (disch := omega) only [i_lit, i_neg, i_add, i_sub, i_mul, i_ofNat, i_div, i_le, i_lt, i_eq, i_ix, i_inb, i_max, i_min, e_rem, j_lit, j_i, Int.reduceToNat, Int.reduceAdd, Int.reduceSub, Int.reduceMul, Int.reduceNeg, Int.reduceLT, Int.reduceLE, Int.reduceEq, gd_t, gd_T, ↓bd_m, ↓on_m, ↓ec_m, ↓reduceIte, if_true, if_false, true_and, and_true, false_and, and_false, true_or, or_true, false_or, or_false, Bool.false_eq_true, b2i_0, b2i_1, bl_0, bl_1, bl_b2, not_true_eq_false, not_false_eq_true, B_X8_keepsChange_75, s1_.k, s1_.r1, s1_.k1, s1_.l1, s1_.r2, s1_.k2, s1_.l2, s1_.r3, s1_.k3, s1_.l3, s1_.r4, s1_.k4, s1_.l4, s1_.r5, s1_.k5, s1_.l5, s1_.r6, s1_.k6, s1_.l6, s1_.r7, s1_.k7, s1_.l7, s1_.r8, s1_.k8, s1_.l8, s1_.r9, s1_.k9, s1_.l9, s1_.r10, s1_.k10, s1_.l10, s1_.r11, s1_.k11, s1_.l11, s1_.r12, s1_.k12, s1_.l12, s1_.r13, s1_.k13, s1_.l13, s1_.r14, s1_.k14, s1_.l14, s1_.r15, s1_.k15, s1_.l15, s1_.r16, s1_.k16, s1_.l16, s1_.r17, s1_.k17, s1_.l17, s1_.r18, s1_.k18, s1_.l18, s1_.r19, s1_.k19, s1_.l19, s1_.r20, s1_.k20, s1_.l20, i2, y1]
  refine Ok2.fwT t1 (v := τ 2) (by omega) T1 rfl (fun g2 t2 T2 j2 => ?_)
  have s2_ := t2.s
  simp (disch := omega) only [i_lit, i_neg, i_add, i_sub, i_mul, i_ofNat, i_div, i_le, i_lt, i_eq, i_ix, i_inb, i_max, i_min, e_rem, j_lit, j_i, Int.reduceToNat, Int.reduceAdd, Int.reduceSub, Int.reduceMul, Int.reduceNeg, Int.reduceLT, Int.reduceLE, Int.reduceEq, gd_t, gd_T, ↓bd_m, ↓on_m, ↓ec_m, ↓reduceIte, if_true, if_false, true_and, and_true, false_and, and_false, true_or, or_true, false_or, or_false, Bool.false_eq_true, b2i_0, b2i_1, bl_0, bl_1, bl_b2, not_true_eq_false, not_false_eq_true, B_X8_keepsChange_89, s2_.k, s2_.r1, s2_.k1, s2_.l1, s2_.r2, s2_.k2, s2_.l2, s2_.r3, s2_.k3, s2_.l3, s2_.r4, s2_.k4, s2_.l4, s2_.r5, s2_.k5, s2_.l5, s2_.r6, s2_.k6, s2_.l6, s2_.r7, s2_.k7, s2_.l7, s2_.r8, s2_.k8, s2_.l8, s2_.r9, s2_.k9, s2_.l9, s2_.r10, s2_.k10, s2_.l10, s2_.r11, s2_.k11, s2_.l11, s2_.r12, s2_.k12, s2_.l12, s2_.r13, s2_.k13, s2_.l13, s2_.r14, s2_.k14, s2_.l14, s2_.r15, s2_.k15, s2_.l15, s2_.r16, s2_.k16, s2_.l16, s2_.r17, s2_.k17, s2_.l17, s2_.r18, s2_.k18, s2_.l18, s2_.r19, s2_.k19, s2_.l19, s2_.r20, s2_.k20, s2_.l20, y2]
  refine Ok2.fwT t2 (v := v - was) (by omega) T2 rfl (fun g3_ t3 T3 j3 => ?_)
  have s3_ := t3.s
  have i6 := t3.i 6
  rw [upT_o (by omega), upT_o (by omega), upT_o (by omega)] at i6
  simp (disch := omega) only [i_lit, i_neg, i_add, i_sub, i_mul, i_ofNat, i_div, i_le, i_lt, i_eq, i_ix, i_inb, i_max, i_min, e_rem, j_lit, j_i, Int.reduceToNat, Int.reduceAdd, Int.reduceSub, Int.reduceMul, Int.reduceNeg, Int.reduceLT, Int.reduceLE, Int.reduceEq, gd_t, gd_T, ↓bd_m, ↓on_m, ↓ec_m, ↓reduceIte, if_true, if_false, true_and, and_true, false_and, and_false, true_or, or_true, false_or, or_false, Bool.false_eq_true, b2i_0, b2i_1, bl_0, bl_1, bl_b2, not_true_eq_false, not_false_eq_true, B_X8_keepsChange_98, s3_.k, s3_.r1, s3_.k1, s3_.l1, s3_.r2, s3_.k2, s3_.l2, s3_.r3, s3_.k3, s3_.l3, s3_.r4, s3_.k4, s3_.l4, s3_.r5, s3_.k5, s3_.l5, s3_.r6, s3_.k6, s3_.l6, s3_.r7, s3_.k7, s3_.l7, s3_.r8, s3_.k8, s3_.l8, s3_.r9, s3_.k9, s3_.l9, s3_.r10, s3_.k10, s3_.l10, s3_.r11, s3_.k11, s3_.l11, s3_.r12, s3_.k12, s3_.l12, s3_.r13, s3_.k13, s3_.l13, s3_.r14, s3_.k14, s3_.l14, s3_.r15, s3_.k15, s3_.l15, s3_.r16, s3_.k16, s3_.l16, s3_.r17, s3_.k17, s3_.l17, s3_.r18, s3_.k18, s3_.l18, s3_.r19, s3_.k19, s3_.l19, s3_.r20, s3_.k20, s3_.l20, i6]
  refine Ok2.fwT t3 (v := τ 6 + 1) (by omega) T3 rfl (fun g4 t4 T4 j4 => ?_)
  have nn : (τ 6).toNat = n := by omega
  have hτ : ∀ i, ¬ (i = 6 ∨ (3149 + 3 * (τ 6).toNat ≤ i ∧ i ≤ 3151 + 3 * (τ 6).toNat)) → upT (upT (upT (upT τ (3149 + 3 * n) s) (3150 + 3 * n) (τ 2)) (3151 + 3 * n) (v - was)) 6 (τ 6 + 1) i = τ i := fun i hi => by rw [upT_o (by omega), upT_o (by omega), upT_o (by omega), upT_o (by omega)]
  have z0 : upT (upT (upT (upT τ (3149 + 3 * n) s) (3150 + 3 * n) (τ 2)) (3151 + 3 * n) (v - was)) 6 (τ 6 + 1) (3149 + 3 * n) = s := by rw [upT_o (by omega), upT_o (by omega), upT_o (by omega), upT_s]
  have z1 : upT (upT (upT (upT τ (3149 + 3 * n) s) (3150 + 3 * n) (τ 2)) (3151 + 3 * n) (v - was)) 6 (τ 6 + 1) (3150 + 3 * n) = τ 2 := by rw [upT_o (by omega), upT_o (by omega), upT_s]
  have z2 : upT (upT (upT (upT τ (3149 + 3 * n) s) (3150 + 3 * n) (τ 2)) (3151 + 3 * n) (v - was)) 6 (τ 6 + 1) (3151 + 3 * n) = v - was := by rw [upT_o (by omega), upT_s]
  have z6 : upT (upT (upT (upT τ (3149 + 3 * n) s) (3150 + 3 * n) (τ 2)) (3151 + 3 * n) (v - was)) 6 (τ 6 + 1) 6 = τ 6 + 1 := upT_s _ _ _
  generalize upT (upT (upT (upT τ (3149 + 3 * n) s) (3150 + 3 * n) (τ 2)) (3151 + 3 * n) (v - was)) 6 (τ 6 + 1) = τ' at hτ z0 z1 z2 z6 t4
  have tn' := t4
  have rg' : RG τ' := ⟨by rw [hτ 0 (by omega)]; exact c.rg.n,
    by rw [hτ 1 (by omega)]; exact c.rg.d,
    by rw [hτ 2 (by omega)]; exact c.rg.h,
    by rw [hτ 3 (by omega)]; exact c.rg.l,
    by rw [hτ 4 (by omega)]; exact c.rg.r,
    by rw [hτ 5 (by omega)]; exact c.rg.t,
    by rw [z6]; omega,
    fun i hi => by rw [hτ _ (by omega)]; exact c.rg.cost i hi,
    fun i hi => by rw [hτ _ (by omega)]; exact c.rg.price i hi,
    fun i hi => by rw [hτ _ (by omega)]; exact c.rg.late i hi,
    fun i hi => by rw [hτ _ (by omega)]; exact c.rg.first i hi,
    fun i hi => by rw [hτ 0 (by omega)] at hi; have := c.rg.n; rw [hτ (24 + i) (by omega), hτ 2 (by omega)]; exact c.rg.chg i hi,
    fun k hk => by rw [hτ 1 (by omega)] at hk; have := c.rg.d; rw [hτ (28 + 4 * k) (by omega), hτ (29 + 4 * k) (by omega), hτ (30 + 4 * k) (by omega), hτ (31 + 4 * k) (by omega), hτ 0 (by omega)]; exact c.rg.drv k hk,
    fun i hi => by rw [hτ _ (by omega)]; exact c.rg.lev i hi,
    fun i hi => by rw [hτ 4 (by omega)] at hi; have := c.rg.r; rw [hτ _ (by omega)]; exact c.rg.rise i hi,
    fun i hi => by rw [hτ _ (by omega)]; exact c.rg.wgt i hi,
    by rw [hτ 120 (by omega)]; exact c.rg.once,
    by rw [hτ 121 (by omega)]; exact c.rg.at,
    by rw [hτ 122 (by omega)]; exact c.rg.cap,
    by rw [hτ 123 (by omega)]; exact c.rg.told,
    by rw [hτ 124 (by omega)]; exact c.rg.byc,
    fun i hi => by rw [hτ _ (by omega)]; exact c.rg.brd i hi,
    fun i hi => by rw [hτ _ (by omega)]; exact c.rg.row i hi,
    fun k hk => by
          rw [z6] at hk
          by_cases u : k = n
          · subst u; rw [z0, z1, z2]; omega
          · rw [hτ (3149 + 3 * k) (by omega), hτ (3150 + 3 * k) (by omega), hτ (3151 + 3 * k) (by omega)]
            exact c.rg.chn k (by omega),
    tn'.g⟩
  have rr := r.add2 (hD := hD) (hC' := hC') (n := τ 6) (D := hn hC) (e' := e') rfl (by omega) ⟨Nat.le_refl _, by omega⟩ (fun a ha => sD a (by omega)) d3 d4 h2' hτ z6 (by
    rw [nn, z0, z1, z2, sDD.1, sDD.2.2.1]
    refine ⟨kD, ?_, ?_, ?_⟩
    · rw [← hH, hI_wI, if_neg (by omega), hI_wI, if_neg (by omega), hI_wI, if_pos ⟨rfl, rfl⟩]
    · rw [← hH, hI_wI, if_neg (by omega), hI_wI, if_pos ⟨rfl, rfl⟩]
    · rw [← hH, hI_wI, if_pos ⟨rfl, rfl⟩]) rg' T4 tn'
  exact Ok2.some ⟨hC', rfl, ⟨_, x, τ', υ, _, _, lw, rr⟩, sW, ⟨by omega, by omega, by omega⟩, T4⟩
theorem op_cost {z m : Nat} (x1 x2 : Int32) : ∀ hC hT, Rx hC hT z m → rm z hC → Ok2 (F_X0_cost hC z x1 x2 (z + 495)) (F_X8_cost hT m x1 x2) (fun a b => VI z m a b ∧ FC z hC a.2 ∧ FT m hT b.2 ∧ Rx a.2 b.2 z m) := by
  intro hC hT ⟨o, x, τ, υ, e, el, lw, r⟩ g
  have hn4 := r.c.rg.n
  have cs := r.cs
  have c := r.c
  have hz := r.hz
  have ts0 := r.tn.s
  have tn := r.tn.wm 5 (iI 0)
  have ti := tn.i
  have ts := tn.s
  have hgi := c.rg.i
  have gr : 1 ≤ hc hC ∧ 6 ≤ hs hC := by have := g.1; have := g.2.1; omega
  obtain ⟨s, rfl, hS0⟩ := i_ex x1
  obtain ⟨v, rfl, hv⟩ := i_ex x2
  have hm := r.m
  have hnz := r.hnz
  have e1 := isStation_eq tn hn4 hS0
  have e2 := within_eq (wI hT m 5 (iI 0)) (a := v) (b := 0) (c := 99) (by omega) (by omega) (by omega)
  have e3 := isIn_eq hC (a := v) (b := 0) (c := 99) (by omega) (by omega) (by omega)
  have gc := g.1
  have gs := g.2.1
  by_cases q : 0 ≤ s ∧ s ≤ τ 0 - 1
  · rw [b2_t q] at e1
    obtain ⟨k1, k2⟩ := stat_at c (s := s) (by omega)
    have i0 := k2.i0
    have e8 : 8 + s.toNat = (8 + s).toNat := by omega
    rw [e8] at i0
    have oS := (c.os s.toNat (by omega)).1
    have nS : ¬ (z + 474 ≤ el 0 s.toNat ∧ el 0 s.toNat ≤ z + 495) := fun w => by have := r.ow _ (Or.inr ⟨by omega, w.2⟩); omega
    have cg := c.rg.cost s.toNat (by omega)
    rw [e8] at cg
    by_cases q2 : 0 ≤ v ∧ v ≤ 99
    · rw [b2_t q2] at e2 e3
      have R1 := (r.thr 5 (by omega) (iI 0)).cst (s := s) (v := v) (by omega) q2
      have G1 : rm z (wI hC (el 0 s.toNat) 0 (iI v)) := g.wI _ _ _
      have T1 : tf (fun a => m ≤ a ∧ a ≤ m + 20) hT (wI (wI hT m 5 (iI 0)) (m + 1) (8 + s).toNat (iI v)) := (FT.thr _ _ _ _).trans (tf_wI (by omega))
      have i5 : hI (wI (wI hT m 5 (iI 0)) (m + 1) (8 + s).toNat (iI v)) m 5 = iI 0 := by rw [hI_wI, if_neg (by omega), hI5]
      have S1 : ∀ u, z + 474 ≤ u → u ≤ z + 495 → sm hC (wI hC (el 0 s.toNat) 0 (iI v)) u := fun u h1 h2 => sm_wI (fun w => nS (by omega))
      have N1 : hn (wI hC (el 0 s.toNat) 0 (iI v)) = hn hC ∧ hc (wI hC (el 0 s.toNat) 0 (iI v)) = hc hC ∧ hs (wI hC (el 0 s.toNat) 0 (iI v)) = hs hC := ⟨rfl, rfl, rfl⟩
      have kS : hK hC (el 0 s.toNat) = 9 := k2.k
      have lhC : ∀ (u : Int32) (k : AH → Option (ER Int32)), lh (wI hC (el 0 s.toNat) 0 u) k = k (wI hC (el 0 s.toNat) 0 u) := fun _ _ => rfl
      have lhT : ∀ (a k : Nat) (u : Int32) (h : AH) (K : AH → Option (Int32 × AH)), lh (wI h a k u) K = K (wI h a k u) := fun _ _ _ _ _ => rfl
      simp (disch := omega) only [i_lit, i_neg, i_add, i_sub, i_mul, i_ofNat, i_div, i_le, i_lt, i_eq, i_ix, i_inb, i_max, i_min, e_rem, j_lit, j_i, Int.reduceToNat, Int.reduceAdd, Int.reduceSub, Int.reduceMul, Int.reduceNeg, Int.reduceLT, Int.reduceLE, Int.reduceEq, gd_t, gd_T, ↓bd_m, ↓on_m, ↓ec_m, ↓reduceIte, if_true, if_false, true_and, and_true, false_and, and_false, true_or, or_true, false_or, or_false, Bool.false_eq_true, b2i_0, b2i_1, bl_0, bl_1, bl_b2, not_true_eq_false, not_false_eq_true, F_X0_cost, F_X1_cost, F_X8_cost, B_X8_cost_5, cs.k, stationOf_t c cs hz q, e3, right_t, kS, ↓lhC, i0, ↓lhT, ts0.k, ts0.r1, ts0.k1, ts0.l1, ts0.r2, ts0.k2, ts0.l2, ts0.r3, ts0.k3, ts0.l3, ts0.r4, ts0.k4, ts0.l4, ts0.r5, ts0.k5, ts0.l5, ts0.r6, ts0.k6, ts0.l6, ts0.r7, ts0.k7, ts0.l7, ts0.r8, ts0.k8, ts0.l8, ts0.r9, ts0.k9, ts0.l9, ts0.r10, ts0.k10, ts0.l10, ts0.r11, ts0.k11, ts0.l11, ts0.r12, ts0.k12, ts0.l12, ts0.r13, ts0.k13, ts0.l13, ts0.r14, ts0.k14, ts0.l14, ts0.r15, ts0.k15, ts0.l15, ts0.r16, ts0.k16, ts0.l16, ts0.r17, ts0.k17, ts0.l17, ts0.r18, ts0.k18, ts0.l18, ts0.r19, ts0.k19, ts0.l19, ts0.r20, ts0.k20, ts0.l20, hK_wI, hL_wI, hR_wI, e1, e2, ti]
      generalize wI hC (el 0 s.toNat) 0 (iI v) = h1 at R1 G1 S1 N1
      generalize wI (wI hT m 5 (iI 0)) (m + 1) (8 + s).toNat (iI v) = g1 at R1 T1 i5
      have c1 := R1.c
      have cs1 := R1.cs
      have hz1 := R1.hz
      have tn1 := R1.tn
      have ts1 := tn1.s
      have u6 : upT τ (8 + s).toNat v 6 = τ 6 := upT_o (by omega)
      have hc10 := c1.rg.c
      rw [u6] at hc10
      by_cases q3 : v = τ (8 + s).toNat
      · have q3T : (v = τ (8 + s).toNat) = True := eq_true q3
        simp (disch := omega) only [i_lit, i_neg, i_add, i_sub, i_mul, i_ofNat, i_div, i_le, i_lt, i_eq, i_ix, i_inb, i_max, i_min, e_rem, j_lit, j_i, Int.reduceToNat, Int.reduceAdd, Int.reduceSub, Int.reduceMul, Int.reduceNeg, Int.reduceLT, Int.reduceLE, Int.reduceEq, gd_t, gd_T, ↓bd_m, ↓lh_t, ↓on_m, ↓ec_m, ↓reduceIte, if_true, if_false, true_and, and_true, false_and, and_false, true_or, or_true, false_or, or_false, Bool.false_eq_true, b2i_0, b2i_1, bl_0, bl_1, bl_b2, not_true_eq_false, not_false_eq_true, B_X1_cost_29, B_X8_cost_57, B_X8_cost_70, q3T, G1.2.2.1, G1.2.2.2.1]
        refine Ok2.some ⟨⟨i5.symm, fun _ => ?_⟩, FCown S1 (by omega) (by omega) (by omega) _ _, T1, ⟨o, x, _, υ, e, el, lw, R1.outk G1.2.2.2.2 _ _⟩⟩
        rw [hJ_wJ, if_pos ⟨rfl, rfl⟩]
        exact (j_i (by omega)).symm
      · have q3F : (v = τ (8 + s).toNat) = False := eq_false q3
        unfold B_X8_cost_57
        rw [show (if (iI v : Int32) = iI (τ (8 + s).toNat) then B_X8_cost_70 g1 (iI (τ (8 + s).toNat)) else gd (hK g1 m = 8) (Option.bind (F_X8_keepsChange g1 m (iI s) (iI v - iI (τ (8 + s).toNat))) fun r29 => B_X8_cost_70 r29 (iI (τ (8 + s).toNat)))) = Option.bind (F_X8_keepsChange g1 m (iI s) (iI (v - τ (8 + s).toNat))) (fun r29 => B_X8_cost_70 r29 (iI (τ (8 + s).toNat))) by
          rw [if_neg (by rw [i_eq (by omega) (by omega)]; exact q3), gd_t _ ts1.k, i_sub]]
        have key : Ok2 (B_X1_cost_29 h1 z (iI s) (iI v) (iI (τ (8 + s).toNat))) (F_X8_keepsChange g1 m (iI s) (iI (v - τ (8 + s).toNat))) (fun a b => ∃ hC', a = .inl (iI (τ (8 + s).toNat), hC') ∧ Rx hC' b z m ∧ (∀ u, z + 474 ≤ u → u ≤ z + 495 → sm h1 hC' u) ∧ (hn h1 ≤ hn hC' ∧ hc h1 ≤ hc hC' + 2 ∧ hs h1 ≤ hs hC' + 203) ∧ tf (fun u => u = m + 1) g1 b) := by
          have s6 := size_eq c1.a2
          have i6 := tn1.i 6
          rw [u6] at s6 i6
          by_cases q10 : τ 6 = 10
          · have qT : (τ 6 = 10) = True := eq_true q10
            have a2 := c1.a2
            rw [u6, q10] at a2
            obtain ⟨w1, w2, w3⟩ := c1.ch 0 (by rw [u6, q10]; omega)
            obtain ⟨h2, r1, r2, r3, r4, r5, r6, r7⟩ := rem_eq a2 (by omega) w1 (fun i hi => by
              obtain ⟨u1, u2, -⟩ := c1.ch i (by rw [u6, q10]; exact hi)
              rw [u1]
              show decide (okE (hK h1 (el 2 i))) = true
              rw [u2]
              decide)
            have ox : x + 3 ≠ x ∧ e 2 ≠ x := by
              have := (c1.oe 2 (by omega)).2.2
              omega
            have nzx : ∀ b, (b = z ∨ (z + 269 ≤ b ∧ b ≤ z + 495)) → sm h1 h2 b := fun b hb => r7 b (fun u => by
              have h1_ := R1.ow b hb
              have h2_ := c1.ox 3 (by omega) (by omega)
              rw [u] at h1_; omega) (fun u => by
              have h1_ := R1.ow b hb
              have k108 : hK _ (e 2) = 108 := (by have := a2.c; omega : hK h1 (e 2) = 108)
              have h2_ := (c1.oe 2 (by omega)).1 k108
              rw [u] at h1_; omega)
            have kz2 : hK h2 z = 1 := by rw [r5]; exact cs1.k
            have cC : B_X1_cost_29 h1 z (iI s) (iI v) (iI (τ (8 + s).toNat)) = B_X1_cost_65 h2 z (iI s) (iI v) (iI (τ (8 + s).toNat)) := by
              simp (disch := omega) only [i_lit, i_neg, i_add, i_sub, i_mul, i_ofNat, i_div, i_le, i_lt, i_eq, i_ix, i_inb, i_max, i_min, e_rem, j_lit, j_i, Int.reduceToNat, Int.reduceAdd, Int.reduceSub, Int.reduceMul, Int.reduceNeg, Int.reduceLT, Int.reduceLE, Int.reduceEq, gd_t, gd_T, ↓bd_m, ↓lh_t, ↓on_m, ↓ec_m, ↓reduceIte, if_true, if_false, true_and, and_true, false_and, and_false, true_or, or_true, false_or, or_false, Bool.false_eq_true, b2i_0, b2i_1, bl_0, bl_1, bl_b2, not_true_eq_false, not_false_eq_true, B_X1_cost_29, q3F, cs1.k, hz1, c1.k, c1.r2, c1.a2.k, s6, qT, r1]
            rw [cC]
            unfold F_X8_keepsChange
            simp (disch := omega) only [i_lit, i_neg, i_add, i_sub, i_mul, i_ofNat, i_div, i_le, i_lt, i_eq, i_ix, i_inb, i_max, i_min, e_rem, j_lit, j_i, Int.reduceToNat, Int.reduceAdd, Int.reduceSub, Int.reduceMul, Int.reduceNeg, Int.reduceLT, Int.reduceLE, Int.reduceEq, gd_t, gd_T, ↓bd_m, ↓lh_t, ↓on_m, ↓ec_m, ↓reduceIte, if_true, if_false, true_and, and_true, false_and, and_false, true_or, or_true, false_or, or_false, Bool.false_eq_true, b2i_0, b2i_1, bl_0, bl_1, bl_b2, not_true_eq_false, not_false_eq_true, ts1.k, ts1.r1, ts1.k1, ts1.l1, ts1.r2, ts1.k2, ts1.l2, ts1.r3, ts1.k3, ts1.l3, ts1.r4, ts1.k4, ts1.l4, ts1.r5, ts1.k5, ts1.l5, ts1.r6, ts1.k6, ts1.l6, ts1.r7, ts1.k7, ts1.l7, ts1.r8, ts1.k8, ts1.l8, ts1.r9, ts1.k9, ts1.l9, ts1.r10, ts1.k10, ts1.l10, ts1.r11, ts1.k11, ts1.l11, ts1.r12, ts1.k12, ts1.l12, ts1.r13, ts1.k13, ts1.l13, ts1.r14, ts1.k14, ts1.l14, ts1.r15, ts1.k15, ts1.l15, ts1.r16, ts1.k16, ts1.l16, ts1.r17, ts1.k17, ts1.l17, ts1.r18, ts1.k18, ts1.l18, ts1.r19, ts1.k19, ts1.l19, ts1.r20, ts1.k20, ts1.l20, i6, qT]
            refine shiftT tn1 _ _ (E := fun Y => Ok2 _ Y _) (fun g2 t2 T2 => ?_)
            have ts2 := t2.s
            have i62 := t2.i 6
            rw [show shT (upT τ (8 + s).toNat v) 3176 6 = τ 6 by unfold shT; rw [if_neg (by omega)]; exact u6, q10] at i62
            have t3 := t2.set 6 (v := 9) (by omega)
            simp (disch := omega) only [i_lit, i_neg, i_add, i_sub, i_mul, i_ofNat, i_div, i_le, i_lt, i_eq, i_ix, i_inb, i_max, i_min, e_rem, j_lit, j_i, Int.reduceToNat, Int.reduceAdd, Int.reduceSub, Int.reduceMul, Int.reduceNeg, Int.reduceLT, Int.reduceLE, Int.reduceEq, gd_t, gd_T, ↓bd_m, ↓lh_t, ↓on_m, ↓ec_m, ↓reduceIte, if_true, if_false, true_and, and_true, false_and, and_false, true_or, or_true, false_or, or_false, Bool.false_eq_true, b2i_0, b2i_1, bl_0, bl_1, bl_b2, not_true_eq_false, not_false_eq_true, B_X8_keepsChange_43, ts2.k, ts2.r1, ts2.k1, ts2.l1, ts2.r2, ts2.k2, ts2.l2, ts2.r3, ts2.k3, ts2.l3, ts2.r4, ts2.k4, ts2.l4, ts2.r5, ts2.k5, ts2.l5, ts2.r6, ts2.k6, ts2.l6, ts2.r7, ts2.k7, ts2.l7, ts2.r8, ts2.k8, ts2.l8, ts2.r9, ts2.k9, ts2.l9, ts2.r10, ts2.k10, ts2.l10, ts2.r11, ts2.k11, ts2.l11, ts2.r12, ts2.k12, ts2.l12, ts2.r13, ts2.k13, ts2.l13, ts2.r14, ts2.k14, ts2.l14, ts2.r15, ts2.k15, ts2.l15, ts2.r16, ts2.k16, ts2.l16, ts2.r17, ts2.k17, ts2.l17, ts2.r18, ts2.k18, ts2.l18, ts2.r19, ts2.k19, ts2.l19, ts2.r20, ts2.k20, ts2.l20, i62]
            have R2 := R1.drop (hC' := h2) (hT' := wI g2 (m + 1) 6 (iI 9)) (τ' := upT (shT (upT τ (8 + s).toNat v) 3176) 6 9) (by rw [u6]; exact q10) r2 (fun i hi => r3 i (by omega)) r4.1 r5 r7 (fun i hi => by
              rw [upT_o (by omega)]
              unfold shT
              rw [if_neg (by omega)]) (upT_s _ _ _) (fun i h1 h2 => by
              rw [upT_o (by omega)]
              unfold shT
              rw [if_pos ⟨h1, h2⟩]) (T2.trans (tf_wI rfl)) t3
            have ce := cost_end R2 (s := s) (v := v) (was := τ (8 + s).toNat) (by rw [r4.2.1, r4.2.2]; omega) (by rw [r5]; exact G1.2.2.2.2) (by rw [upT_s]; omega) (by omega) (by omega)
            refine ce.mono (fun a b H => ?_)
            obtain ⟨hC', H1, H2, H3, H4, H5⟩ := H
            refine ⟨hC', H1, H2, fun u u1 u2 => (nzx u (Or.inr ⟨by omega, u2⟩)).trans (H3 u u1 u2), ?_, (T2.trans (tf_wI rfl)).trans H5⟩
            rw [r4.1, r4.2.1, r4.2.2] at H4
            exact H4
          · have qF : (τ 6 = 10) = False := eq_false q10
            have cC : B_X1_cost_29 h1 z (iI s) (iI v) (iI (τ (8 + s).toNat)) = B_X1_cost_65 h1 z (iI s) (iI v) (iI (τ (8 + s).toNat)) := by
              simp (disch := omega) only [i_lit, i_neg, i_add, i_sub, i_mul, i_ofNat, i_div, i_le, i_lt, i_eq, i_ix, i_inb, i_max, i_min, e_rem, j_lit, j_i, Int.reduceToNat, Int.reduceAdd, Int.reduceSub, Int.reduceMul, Int.reduceNeg, Int.reduceLT, Int.reduceLE, Int.reduceEq, gd_t, gd_T, ↓bd_m, ↓lh_t, ↓on_m, ↓ec_m, ↓reduceIte, if_true, if_false, true_and, and_true, false_and, and_false, true_or, or_true, false_or, or_false, Bool.false_eq_true, b2i_0, b2i_1, bl_0, bl_1, bl_b2, not_true_eq_false, not_false_eq_true, B_X1_cost_29, q3F, cs1.k, hz1, c1.k, c1.r2, c1.a2.k, s6, qF]
            rw [cC]
            unfold F_X8_keepsChange
            simp (disch := omega) only [i_lit, i_neg, i_add, i_sub, i_mul, i_ofNat, i_div, i_le, i_lt, i_eq, i_ix, i_inb, i_max, i_min, e_rem, j_lit, j_i, Int.reduceToNat, Int.reduceAdd, Int.reduceSub, Int.reduceMul, Int.reduceNeg, Int.reduceLT, Int.reduceLE, Int.reduceEq, gd_t, gd_T, ↓bd_m, ↓lh_t, ↓on_m, ↓ec_m, ↓reduceIte, if_true, if_false, true_and, and_true, false_and, and_false, true_or, or_true, false_or, or_false, Bool.false_eq_true, b2i_0, b2i_1, bl_0, bl_1, bl_b2, not_true_eq_false, not_false_eq_true, ts1.k, ts1.r1, ts1.k1, ts1.l1, ts1.r2, ts1.k2, ts1.l2, ts1.r3, ts1.k3, ts1.l3, ts1.r4, ts1.k4, ts1.l4, ts1.r5, ts1.k5, ts1.l5, ts1.r6, ts1.k6, ts1.l6, ts1.r7, ts1.k7, ts1.l7, ts1.r8, ts1.k8, ts1.l8, ts1.r9, ts1.k9, ts1.l9, ts1.r10, ts1.k10, ts1.l10, ts1.r11, ts1.k11, ts1.l11, ts1.r12, ts1.k12, ts1.l12, ts1.r13, ts1.k13, ts1.l13, ts1.r14, ts1.k14, ts1.l14, ts1.r15, ts1.k15, ts1.l15, ts1.r16, ts1.k16, ts1.l16, ts1.r17, ts1.k17, ts1.l17, ts1.r18, ts1.k18, ts1.l18, ts1.r19, ts1.k19, ts1.l19, ts1.r20, ts1.k20, ts1.l20, i6, qF]
            exact cost_end R1 (s := s) (v := v) (was := τ (8 + s).toNat) (by omega) G1.2.2.2.2 (by rw [u6]; omega) (by omega) (by omega)
        obtain ⟨a, b, ea, eb, hC', rfl, ⟨o', x', τ', υ', e', el', lw', R'⟩, SW, NN, T2⟩ := key
        rw [ea, eb]
        have so := SW (z + 495) (by omega) (by omega)
        have ko : hK hC' (z + 495) = 102 := by rw [so.1]; exact G1.2.2.1
        have lo : hL hC' (z + 495) = 1 := by rw [so.2.1]; exact G1.2.2.2.1
        simp (disch := omega) only [i_lit, i_neg, i_add, i_sub, i_mul, i_ofNat, i_div, i_le, i_lt, i_eq, i_ix, i_inb, i_max, i_min, e_rem, j_lit, j_i, Int.reduceToNat, Int.reduceAdd, Int.reduceSub, Int.reduceMul, Int.reduceNeg, Int.reduceLT, Int.reduceLE, Int.reduceEq, gd_t, gd_T, ↓bd_m, ↓lh_t, ↓on_m, ↓ec_m, ↓reduceIte, if_true, if_false, true_and, and_true, false_and, and_false, true_or, or_true, false_or, or_false, Bool.false_eq_true, b2i_0, b2i_1, bl_0, bl_1, bl_b2, not_true_eq_false, not_false_eq_true, B_X8_cost_70, ko, lo]
        refine Ok2.some ⟨⟨?_, fun _ => ?_⟩, FCown (fun u h1 h2 => (S1 u h1 h2).trans (SW u h1 h2)) (by omega) (by omega) (by omega) _ _, T1.trans (T2.mono (fun u q => by omega)), ⟨o', x', τ', υ', e', el', lw', R'.outk (fun u h1 h2 => by rw [(SW u h1 h2).1]; exact G1.2.2.2.2 u h1 h2) _ _⟩⟩
        · show _ = hI b m 5
          rw [T2.I (by omega), i5]
        · show hJ (wJ _ _ _ _) _ _ = _
          rw [hJ_wJ, if_pos ⟨rfl, rfl⟩]
          exact (j_i (by omega)).symm
    · rw [b2_f q2] at e2 e3
      simp (disch := omega) only [i_lit, i_neg, i_add, i_sub, i_mul, i_ofNat, i_div, i_le, i_lt, i_eq, i_ix, i_inb, i_max, i_min, e_rem, j_lit, j_i, Int.reduceToNat, Int.reduceAdd, Int.reduceSub, Int.reduceMul, Int.reduceNeg, Int.reduceLT, Int.reduceLE, Int.reduceEq, gd_t, gd_T, ↓bd_m, ↓lh_t, ↓on_m, ↓ec_m, ↓reduceIte, if_true, if_false, true_and, and_true, false_and, and_false, true_or, or_true, false_or, or_false, Bool.false_eq_true, b2i_0, b2i_1, bl_0, bl_1, bl_b2, not_true_eq_false, not_false_eq_true, F_X0_cost, F_X1_cost, B_X0_cost_17, F_X8_cost, B_X8_cost_5, cs.k, stationOf_t c cs hz q, e3, right_f gr, hK_wI, hL_wI, hR_wI, ts0.k, ts0.r1, ts0.k1, ts0.l1, ts0.r2, ts0.k2, ts0.l2, ts0.r3, ts0.k3, ts0.l3, ts0.r4, ts0.k4, ts0.l4, ts0.r5, ts0.k5, ts0.l5, ts0.r6, ts0.k6, ts0.l6, ts0.r7, ts0.k7, ts0.l7, ts0.r8, ts0.k8, ts0.l8, ts0.r9, ts0.k9, ts0.l9, ts0.r10, ts0.k10, ts0.l10, ts0.r11, ts0.k11, ts0.l11, ts0.r12, ts0.k12, ts0.l12, ts0.r13, ts0.k13, ts0.l13, ts0.r14, ts0.k14, ts0.l14, ts0.r15, ts0.k15, ts0.l15, ts0.r16, ts0.k16, ts0.l16, ts0.r17, ts0.k17, ts0.l17, ts0.r18, ts0.k18, ts0.l18, ts0.r19, ts0.k19, ts0.l19, ts0.r20, ts0.k20, ts0.l20, e1, e2, fails_eq ts.k, Nat.reduceEqDiff]
      exact Ok2.some (r.bad _ (by decide))
  · rw [b2_f q] at e1
    simp (disch := omega) only [i_lit, i_neg, i_add, i_sub, i_mul, i_ofNat, i_div, i_le, i_lt, i_eq, i_ix, i_inb, i_max, i_min, e_rem, j_lit, j_i, Int.reduceToNat, Int.reduceAdd, Int.reduceSub, Int.reduceMul, Int.reduceNeg, Int.reduceLT, Int.reduceLE, Int.reduceEq, gd_t, gd_T, ↓bd_m, ↓lh_t, ↓on_m, ↓ec_m, ↓reduceIte, if_true, if_false, true_and, and_true, false_and, and_false, true_or, or_true, false_or, or_false, Bool.false_eq_true, b2i_0, b2i_1, bl_0, bl_1, bl_b2, not_true_eq_false, not_false_eq_true, F_X0_cost, F_X1_cost, B_X0_cost_13, F_X8_cost, B_X8_cost_5, cs.k, stationOf_f c cs hz hS0 q gr, ts0.k, ts0.r1, ts0.k1, ts0.l1, ts0.r2, ts0.k2, ts0.l2, ts0.r3, ts0.k3, ts0.l3, ts0.r4, ts0.k4, ts0.l4, ts0.r5, ts0.k5, ts0.l5, ts0.r6, ts0.k6, ts0.l6, ts0.r7, ts0.k7, ts0.l7, ts0.r8, ts0.k8, ts0.l8, ts0.r9, ts0.k9, ts0.l9, ts0.r10, ts0.k10, ts0.l10, ts0.r11, ts0.k11, ts0.l11, ts0.r12, ts0.k12, ts0.l12, ts0.r13, ts0.k13, ts0.l13, ts0.r14, ts0.k14, ts0.l14, ts0.r15, ts0.k15, ts0.l15, ts0.r16, ts0.k16, ts0.l16, ts0.r17, ts0.k17, ts0.l17, ts0.r18, ts0.k18, ts0.l18, ts0.r19, ts0.k19, ts0.l19, ts0.r20, ts0.k20, ts0.l20, hK_wI, e1, fails_eq ts.k, Nat.reduceEqDiff]
    exact Ok2.some (r.bad _ (by decide))
