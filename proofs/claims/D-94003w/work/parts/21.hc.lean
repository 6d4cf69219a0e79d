/-! PURE HC: fit, level -/
set_option maxRecDepth 100000
theorem tS.trans {m : Nat} {a b c : AH} (p : tS m a b) (q : tS m b c) : tS m a c := ⟨q.1, fun x hx => ⟨(q.2.1 x hx).1.trans (p.2.1 x hx).1, (q.2.1 x hx).2.trans (p.2.1 x hx).2⟩, q.2.2.1.trans p.2.2.1, q.2.2.2.1.trans p.2.2.2.1, q.2.2.2.2.1.trans p.2.2.2.2.1, q.2.2.2.2.2.1.trans p.2.2.2.2.2.1, q.2.2.2.2.2.2.trans p.2.2.2.2.2.2⟩
theorem tS.wm {m : Nat} {h : AH} (ts : TS h m) (k : Nat) (hk : k ≠ 9 ∧ k ≠ 18 ∧ k ≠ 19) (v : Int32) : tS m h (wI h m k v) := by
  refine ⟨ts.tf (tf_wI (P := fun a => a = m) rfl), fun a q => ⟨(sm_wI (by omega)).2.2.1, rfl⟩, ?_, ?_, ?_, rfl, rfl⟩
  · rw [hI_wI, if_neg (by omega)]
  · rw [hI_wI, if_neg (by omega)]
  · rw [hI_wI, if_neg (by omega)]
theorem since_rngT {τ : Nat → Int} {s y : Int} (hy : 1 ≤ y ∧ y ≤ 60) : 0 ≤ sinceS τ true s y ∧ sinceS τ true s y ≤ 99 := by
  have key : ∀ n : Nat, -1 ≤ itr (lastF τ s) n 1 (-1) ∧ itr (lastF τ s) n 1 (-1) ≤ (n : Int) := by
    intro n
    induction n with
    | zero => exact ⟨by simp [itr], by simp [itr]⟩
    | succ n ih =>
      rw [itr_succ]
      unfold lastF at ih ⊢
      split
      · push_cast; omega
      · push_cast; omega
  have := key (y - 1).toNat
  unfold sinceS
  simp only [if_true]
  split <;> omega
theorem op_fit {z m : Nat} (x1 : Int32) : ∀ hC hT, Rx hC hT z m → rm z hC → Ok2 (F_X0_fit hC z x1 (z + 495)) (F_X8_fit hT m x1) (fun a b => VI z m a b ∧ FC z hC a.2 ∧ FT m hT b.2 ∧ Rx a.2 b.2 z m) := by
  intro hC hT ⟨o, x, τ, υ, e, el, lw, r⟩ g
  have hn4 := r.c.rg.n
  have cs := r.cs
  have c := r.c
  have hz := r.hz
  have ts0 := r.tn.s
  have tn := r.tn.wm 5 (iI 0)
  have ti := tn.i
  have ts := tn.s
  have hgi := c.rg.i
  have gr : 1 ≤ hc hC ∧ 6 ≤ hs hC := by have := g.1; have := g.2.1; omega
  obtain ⟨s, rfl, hs⟩ := i_ex x1
  have rt := c.rg.t
  have gm := g.2.2.2.2
  have e1 := isStation_eq tn hn4 hs
  by_cases q : 0 ≤ s ∧ s ≤ τ 0 - 1
  · rw [b2_t q] at e1
    obtain ⟨s, rfl⟩ := Int.eq_ofNat_of_zero_le q.1
    have tn2 := tn.wm 23 (iI 1)
    have f23 : hI (wI (wI hT m 5 (iI 0)) m 23 (iI 1)) m 23 = iI 1 := by rw [hI_wI, if_pos ⟨rfl, rfl⟩]
    have f5 : hI (wI (wI hT m 5 (iI 0)) m 23 (iI 1)) m 5 = iI 0 := by rw [hI_wI, if_neg (by omega), hI5]
    have S0 : tS m (wI hT m 5 (iI 0)) (wI (wI hT m 5 (iI 0)) m 23 (iI 1)) := tS.wm tn.s 23 (by omega) _
    have F0 : tf (fun a => m ≤ a ∧ a ≤ m + 20) (wI hT m 5 (iI 0)) (wI (wI hT m 5 (iI 0)) m 23 (iI 1)) := tf_wI (by omega)
    generalize hG : wI (wI hT m 5 (iI 0)) m 23 (iI 1) = gT0 at tn2 f23 f5 S0 F0
    have key : Ok2 (G_X1_fit_8 hC z (iI s) (iI 1)) (G_X8_fit_26 gT0 m (iI s) (iI 1)) (fun a b => ∃ (w : Int) (g' gT' : AH), i31 w ∧ a = .inl (iI w, g') ∧ b = (iI w, gT') ∧ tf (fun a => a = z + 273) hC g' ∧ tf (fun a => a = m + 9) gT0 gT') := by
      unfold G_X1_fit_8 G_X8_fit_26
      refine lp_ok2 (fun st u k => ∃ (g gT : AH) (y : Nat), st = (g, z, iI s, iI y) ∧ u = (gT, m, iI s, iI y) ∧ 1 ≤ y ∧ ((y : Int) ≤ τ 5 ∨ y = 1) ∧ k = (τ 5 - y).toNat ∧ tf (fun a => a = z + 273) hC g ∧ tf (fun a => a = m + 9) gT0 gT) ?_ fuel (τ 5 - 1).toNat _ _ ⟨hC, gT0, 1, rfl, rfl, by omega, by omega, by omega, tf.rfl, tf.rfl⟩ (lt_fuel (by omega))
      rintro f1 f2 st u k ⟨g1, gT, y, rfl, rfl, h1, h2, rfl, T1, T2⟩ ih
      have P1 : ∀ a, a = z + 273 → scr z a := fun a w => by unfold scr; omega
      have r1 := r.scC gm (cS.tf T1 P1)
      have c1 := r1.c
      have cs1 := r1.cs
      have hz1 := r1.hz
      have t1 := tn2.tf T2 (by omega)
      have ts1 := t1.s
      have ti1 := t1.i
      unfold L_X1_fit_8 L_X8_fit_26
      by_cases ho : τ 5 ≤ (y : Int)
      · simp (disch := omega) only [i_lit, i_neg, i_add, i_sub, i_mul, i_ofNat, i_div, i_le, i_lt, i_eq, i_ix, i_inb, i_max, i_min, e_rem, j_lit, j_i, Int.reduceToNat, Int.reduceAdd, Int.reduceSub, Int.reduceMul, Int.reduceNeg, Int.reduceLT, Int.reduceLE, Int.reduceEq, gd_t, gd_T, ↓bd_m, ↓lh_t, ↓on_m, ↓ec_m, ↓reduceIte, if_true, if_false, true_and, and_true, false_and, and_false, true_or, or_true, false_or, or_false, Bool.false_eq_true, b2i_0, b2i_1, bl_0, bl_1, bl_b2, not_true_eq_false, not_false_eq_true, B_X1_fit_8, B_X1_fit_59, B_X8_fit_26, B_X8_fit_59, cs1.k, hz1, many_eq c1, c1.k, c1.i9, c1.i10, c1.r0, c1.r1, c1.r2, c1.r3, c1.r4, c1.r5, c1.r6, c1.r7, c1.r8, c1.a0.k, c1.a1.k, c1.a2.k, c1.a3.k, c1.a4.k, size_eq c1.a0, size_eq c1.a1, size_eq c1.a2, size_eq c1.a3, size_eq c1.a4, c1.kb, c1.lb, c1.kl, c1.ll, c1.kw, c1.lw_, c1.kL, c1.l, ts1.k, ts1.r1, ts1.k1, ts1.l1, ts1.r2, ts1.k2, ts1.l2, ts1.r3, ts1.k3, ts1.l3, ts1.r4, ts1.k4, ts1.l4, ts1.r5, ts1.k5, ts1.l5, ts1.r6, ts1.k6, ts1.l6, ts1.r7, ts1.k7, ts1.l7, ts1.r8, ts1.k8, ts1.l8, ts1.r9, ts1.k9, ts1.l9, ts1.r10, ts1.k10, ts1.l10, ts1.r11, ts1.k11, ts1.l11, ts1.r12, ts1.k12, ts1.l12, ts1.r13, ts1.k13, ts1.l13, ts1.r14, ts1.k14, ts1.l14, ts1.r15, ts1.k15, ts1.l15, ts1.r16, ts1.k16, ts1.l16, ts1.r17, ts1.k17, ts1.l17, ts1.r18, ts1.k18, ts1.l18, ts1.r19, ts1.k19, ts1.l19, ts1.r20, ts1.k20, ts1.l20, ti1, ho]
        exact Ok2.some ⟨-1, g1, gT, by omega, rfl, rfl, T1, T2⟩
      · obtain ⟨v, v0, ⟨⟨w1, w2⟩, u1, u2, u3⟩, v3⟩ := sets_k5 c1 cs1 hz1 r1.ow (by omega) (s := (s : Int)) (y := (y : Int)) (by omega) (by omega) (since_rngT (by omega))
        have u2 : w1 = iI v := u2
        have u3 : tf (fun a => a = z + 273) g1 w2 := u3
        subst u2
        obtain ⟨⟨y1, y2⟩, k1, k2, k3⟩ := v3 gT m t1 (by rw [T2.I (by omega), f23]; rfl)
        have k2 : y1 = iI v := k2
        have k3 : tf (fun a => a = m + 9) gT y2 := k3
        subst k2
        have T1' := T1.trans u3
        have T2' := T2.trans k3
        have r2 := r.scC gm (cS.tf T1' P1)
        have c2 := r2.c
        have cs2 := r2.cs
        have hz2 := r2.hz
        have t2 := tn2.tf T2' (by omega)
        have ts2 := t2.s
        obtain ⟨l1, l2, l3, l4, l5⟩ := c2.to y (by omega)
        have l6 := get_eq c2.a4 (i := (y : Int)) (by omega) l1
        have l7 := l5 s (by omega)
        have sn := seen_eq t2 (bt := true) (by rw [T2'.I (by omega), f23]; rfl) (s := (s : Int)) (x := (y : Int)) (by omega) (by omega) (fun _ => by omega)
        have es : seenS τ true (s : Int) (y : Int) = τ (2909 + 4 * y + s) := by
          unfold seenS
          rw [if_pos rfl, show (2909 + 4 * max 0 (y : Int) + (s : Int)).toNat = 2909 + 4 * y + s by omega]
        rw [es] at sn
        have gv := hgi (2909 + 4 * y + s)
        have nx := ih (w2, z, iI s, iI ((y + 1 : Nat) : Int)) (y2, m, iI s, iI ((y + 1 : Nat) : Int)) (τ 5 - ((y + 1 : Nat) : Int)).toNat (by omega) ⟨w2, y2, y + 1, rfl, rfl, by omega, by omega, rfl, T1', T2'⟩
        rw [show (((y + 1 : Nat)) : Int) = (y : Int) + 1 by omega] at nx
        by_cases q2 : v = τ (2909 + 4 * y + s)
        · have qT : (v = τ (2909 + 4 * y + s)) = True := eq_true q2
          simp (disch := omega) only [i_lit, i_neg, i_add, i_sub, i_mul, i_ofNat, i_div, i_le, i_lt, i_eq, i_ix, i_inb, i_max, i_min, e_rem, j_lit, j_i, Int.reduceToNat, Int.reduceAdd, Int.reduceSub, Int.reduceMul, Int.reduceNeg, Int.reduceLT, Int.reduceLE, Int.reduceEq, gd_t, gd_T, ↓bd_m, ↓lh_t, ↓on_m, ↓ec_m, ↓reduceIte, if_true, if_false, true_and, and_true, false_and, and_false, true_or, or_true, false_or, or_false, Bool.false_eq_true, b2i_0, b2i_1, bl_0, bl_1, bl_b2, not_true_eq_false, not_false_eq_true, B_X1_fit_8, B_X8_fit_26, cs1.k, hz1, many_eq c1, c1.k, c1.i9, c1.i10, c1.r0, c1.r1, c1.r2, c1.r3, c1.r4, c1.r5, c1.r6, c1.r7, c1.r8, c1.a0.k, c1.a1.k, c1.a2.k, c1.a3.k, c1.a4.k, size_eq c1.a0, size_eq c1.a1, size_eq c1.a2, size_eq c1.a3, size_eq c1.a4, c1.kb, c1.lb, c1.kl, c1.ll, c1.kw, c1.lw_, c1.kL, c1.l, cs1.r272, u1, cs2.k, hz2, many_eq c2, c2.k, c2.i9, c2.i10, c2.r0, c2.r1, c2.r2, c2.r3, c2.r4, c2.r5, c2.r6, c2.r7, c2.r8, c2.a0.k, c2.a1.k, c2.a2.k, c2.a3.k, c2.a4.k, size_eq c2.a0, size_eq c2.a1, size_eq c2.a2, size_eq c2.a3, size_eq c2.a4, c2.kb, c2.lb, c2.kl, c2.ll, c2.kw, c2.lw_, c2.kL, c2.l, l6, l2, l4, l7, ts1.k, ts1.r1, ts1.k1, ts1.l1, ts1.r2, ts1.k2, ts1.l2, ts1.r3, ts1.k3, ts1.l3, ts1.r4, ts1.k4, ts1.l4, ts1.r5, ts1.k5, ts1.l5, ts1.r6, ts1.k6, ts1.l6, ts1.r7, ts1.k7, ts1.l7, ts1.r8, ts1.k8, ts1.l8, ts1.r9, ts1.k9, ts1.l9, ts1.r10, ts1.k10, ts1.l10, ts1.r11, ts1.k11, ts1.l11, ts1.r12, ts1.k12, ts1.l12, ts1.r13, ts1.k13, ts1.l13, ts1.r14, ts1.k14, ts1.l14, ts1.r15, ts1.k15, ts1.l15, ts1.r16, ts1.k16, ts1.l16, ts1.r17, ts1.k17, ts1.l17, ts1.r18, ts1.k18, ts1.l18, ts1.r19, ts1.k19, ts1.l19, ts1.r20, ts1.k20, ts1.l20, ti1, ho, k1, ts2.k, sn, qT, Int.toNat_natCast]
          exact nx
        · have qT : (v = τ (2909 + 4 * y + s)) = False := eq_false q2
          simp (disch := omega) only [i_lit, i_neg, i_add, i_sub, i_mul, i_ofNat, i_div, i_le, i_lt, i_eq, i_ix, i_inb, i_max, i_min, e_rem, j_lit, j_i, Int.reduceToNat, Int.reduceAdd, Int.reduceSub, Int.reduceMul, Int.reduceNeg, Int.reduceLT, Int.reduceLE, Int.reduceEq, gd_t, gd_T, ↓bd_m, ↓lh_t, ↓on_m, ↓ec_m, ↓reduceIte, if_true, if_false, true_and, and_true, false_and, and_false, true_or, or_true, false_or, or_false, Bool.false_eq_true, b2i_0, b2i_1, bl_0, bl_1, bl_b2, not_true_eq_false, not_false_eq_true, B_X1_fit_8, B_X1_fit_51, B_X8_fit_26, B_X8_fit_51, cs1.k, hz1, many_eq c1, c1.k, c1.i9, c1.i10, c1.r0, c1.r1, c1.r2, c1.r3, c1.r4, c1.r5, c1.r6, c1.r7, c1.r8, c1.a0.k, c1.a1.k, c1.a2.k, c1.a3.k, c1.a4.k, size_eq c1.a0, size_eq c1.a1, size_eq c1.a2, size_eq c1.a3, size_eq c1.a4, c1.kb, c1.lb, c1.kl, c1.ll, c1.kw, c1.lw_, c1.kL, c1.l, cs1.r272, u1, cs2.k, hz2, many_eq c2, c2.k, c2.i9, c2.i10, c2.r0, c2.r1, c2.r2, c2.r3, c2.r4, c2.r5, c2.r6, c2.r7, c2.r8, c2.a0.k, c2.a1.k, c2.a2.k, c2.a3.k, c2.a4.k, size_eq c2.a0, size_eq c2.a1, size_eq c2.a2, size_eq c2.a3, size_eq c2.a4, c2.kb, c2.lb, c2.kl, c2.ll, c2.kw, c2.lw_, c2.kL, c2.l, l6, l2, l4, l7, ts1.k, ts1.r1, ts1.k1, ts1.l1, ts1.r2, ts1.k2, ts1.l2, ts1.r3, ts1.k3, ts1.l3, ts1.r4, ts1.k4, ts1.l4, ts1.r5, ts1.k5, ts1.l5, ts1.r6, ts1.k6, ts1.l6, ts1.r7, ts1.k7, ts1.l7, ts1.r8, ts1.k8, ts1.l8, ts1.r9, ts1.k9, ts1.l9, ts1.r10, ts1.k10, ts1.l10, ts1.r11, ts1.k11, ts1.l11, ts1.r12, ts1.k12, ts1.l12, ts1.r13, ts1.k13, ts1.l13, ts1.r14, ts1.k14, ts1.l14, ts1.r15, ts1.k15, ts1.l15, ts1.r16, ts1.k16, ts1.l16, ts1.r17, ts1.k17, ts1.l17, ts1.r18, ts1.k18, ts1.l18, ts1.r19, ts1.k19, ts1.l19, ts1.r20, ts1.k20, ts1.l20, ti1, ho, k1, ts2.k, sn, qT, Int.toNat_natCast]
          exact Ok2.some ⟨y, w2, y2, by omega, rfl, rfl, T1', T2'⟩
    obtain ⟨u, u', k1, k2, w, g', gT', hw, rfl, rfl, T1, T2⟩ := key
    have g2 := g.tf T1
    simp (disch := omega) only [i_lit, i_neg, i_add, i_sub, i_mul, i_ofNat, i_div, i_le, i_lt, i_eq, i_ix, i_inb, i_max, i_min, e_rem, j_lit, j_i, Int.reduceToNat, Int.reduceAdd, Int.reduceSub, Int.reduceMul, Int.reduceNeg, Int.reduceLT, Int.reduceLE, Int.reduceEq, gd_t, gd_T, ↓bd_m, ↓lh_t, ↓on_m, ↓ec_m, ↓reduceIte, if_true, if_false, true_and, and_true, false_and, and_false, true_or, or_true, false_or, or_false, Bool.false_eq_true, b2i_0, b2i_1, bl_0, bl_1, bl_b2, not_true_eq_false, not_false_eq_true, F_X0_fit, F_X1_fit, F_X8_fit, B_X8_fit_5, B_X8_fit_24, cs.k, stationOf_t c cs hz q, k1, g2.2.2.1, g2.2.2.2.1, ts0.k, hK_wI, e1, hG, k2]
    refine Ok2.some (r.fin g T1 (fun a w => by unfold scr; omega) (F0.trans (T2.mono (fun a w => by omega))) (S0.trans (tS.tf tn2.s T2 (fun a w => by omega))) ?_ _ _ (j_i (by omega)).symm)
    rw [T2.I (by omega)]
    exact f5
  · rw [b2_f q] at e1
    simp (disch := omega) only [i_lit, i_neg, i_add, i_sub, i_mul, i_ofNat, i_div, i_le, i_lt, i_eq, i_ix, i_inb, i_max, i_min, e_rem, j_lit, j_i, Int.reduceToNat, Int.reduceAdd, Int.reduceSub, Int.reduceMul, Int.reduceNeg, Int.reduceLT, Int.reduceLE, Int.reduceEq, gd_t, gd_T, ↓bd_m, ↓lh_t, ↓on_m, ↓ec_m, ↓reduceIte, if_true, if_false, true_and, and_true, false_and, and_false, true_or, or_true, false_or, or_false, Bool.false_eq_true, b2i_0, b2i_1, bl_0, bl_1, bl_b2, not_true_eq_false, not_false_eq_true, F_X0_fit, F_X1_fit, B_X0_fit_12, F_X8_fit, B_X8_fit_5, cs.k, stationOf_f c cs hz hs q gr, ts0.k, ts0.r1, ts0.k1, ts0.l1, ts0.r2, ts0.k2, ts0.l2, ts0.r3, ts0.k3, ts0.l3, ts0.r4, ts0.k4, ts0.l4, ts0.r5, ts0.k5, ts0.l5, ts0.r6, ts0.k6, ts0.l6, ts0.r7, ts0.k7, ts0.l7, ts0.r8, ts0.k8, ts0.l8, ts0.r9, ts0.k9, ts0.l9, ts0.r10, ts0.k10, ts0.l10, ts0.r11, ts0.k11, ts0.l11, ts0.r12, ts0.k12, ts0.l12, ts0.r13, ts0.k13, ts0.l13, ts0.r14, ts0.k14, ts0.l14, ts0.r15, ts0.k15, ts0.l15, ts0.r16, ts0.k16, ts0.l16, ts0.r17, ts0.k17, ts0.l17, ts0.r18, ts0.k18, ts0.l18, ts0.r19, ts0.k19, ts0.l19, ts0.r20, ts0.k20, ts0.l20, hK_wI, e1, fails_eq ts.k, Nat.reduceEqDiff]
    exact Ok2.some (r.bad _ (by decide))
theorem RL.lev {o : Nat → Nat} {hC hT : AH} {z m x : Nat} {τ : Nat → Int} {υ : Nat → Int64} {e : Nat → Nat} {el : Nat → Nat → Nat} {lw : Nat} (r : RL o hC hT z m x τ υ e el lw) {n : Nat} (hn3 : τ 3 = (n : Int)) (h8 : n < 8) {v : Int} (hv : 0 ≤ v ∧ v ≤ 99) : RL o (wI (wI hC (x + 264) n (iI v)) x 10 (iI (τ 3 + 1))) (wI (wI hT (m + 1) (52 + n) (iI v)) (m + 1) 3 (iI (τ 3 + 1))) z m x (upT (upT τ (52 + n) v) 3 (τ 3 + 1)) υ e el lw := by
  have c := r.c
  have hn4 := c.rg.n
  have ox : o x = 2 := c.ox 0 (by omega) (by omega)
  have o264 : o (x + 264) = 2 := c.ox 264 (by omega) (by omega)
  generalize hh : wI (wI hC (x + 264) n (iI v)) x 10 (iI (τ 3 + 1)) = hC'
  have kk : hK hC' = hK hC := by rw [← hh]; rfl
  have kL : hL hC' = hL hC := by rw [← hh]; rfl
  have kR : hR hC' = hR hC := by rw [← hh]; rfl
  have kn : hn hC' = hn hC := by rw [← hh]; rfl
  have s1 : ∀ a, a < hn hC → ¬ (fun a => a = x ∨ a = x + 264) a → sm hC hC' a := fun a _ q => by
    rw [← hh]
    exact (sm_wI (fun w => q (Or.inr w))).trans (sm_wI (fun w => q (Or.inl w)))
  have hM : ∀ a, (fun a => a = x ∨ a = x + 264) a → o a = 2 ∧ ¬ imK (hK hC a) ∧ hK hC a ≠ 120 := fun a q => by
    rcases q with q | q
    · rw [q, c.k]
      exact ⟨ox, by unfold imK; omega, by omega⟩
    · rw [q, c.kl]
      exact ⟨o264, by unfold imK; omega, by omega⟩
  have fs := RL.keep r (o' := o) (fun a => a = x ∨ a = x + 264) hM s1 (fun _ _ => rfl)
  have hτ : ∀ i : Nat, ¬ (i = 3 ∨ i = 52 + n) → upT (upT τ (52 + n) v) 3 (τ 3 + 1) i = τ i := fun i q => by rw [upT_o (by omega), upT_o (by omega)]
  have hυ : ∀ i : Nat, i < 9 → υ i = υ i := fun _ _ => rfl
  have nE : ∀ j, j < 5 → hK hC (e j) = 108 → ¬ (e j = x ∨ e j = x + 264) := fun j hj q w => by
    have := (c.oe j hj).2.2
    omega
  have tn' := (r.tn.set (52 + n) (v := v) (by omega)).set 3 (v := τ 3 + 1) (by have := c.rg.l; omega)
  obtain ⟨fim, f6, f7, h00, f2, o2⟩ := fs
  have sx1 : sm hC hC' (x + 1) := f2 _ (c.ox 1 (by omega) (by omega)) (by omega)
  have sx2 : sm hC hC' (x + 2) := f2 _ (c.ox 2 (by omega) (by omega)) (by omega)
  have sx3 : sm hC hC' (x + 3) := f2 _ (c.ox 3 (by omega) (by omega)) (by omega)
  have sx4 : sm hC hC' (x + 4) := f2 _ (c.ox 4 (by omega) (by omega)) (by omega)
  have sx5 : sm hC hC' (x + 5) := f2 _ (c.ox 5 (by omega) (by omega)) (by omega)
  have sx7 : sm hC hC' (x + 7) := f2 _ (c.ox 7 (by omega) (by omega)) (by omega)
  have sx265 : sm hC hC' (x + 265) := f2 _ (c.ox 265 (by omega) (by omega)) (by omega)
  have sk : ∀ k, k < 256 → sm hC hC' (x + 8 + k) := fun k hk => by
    have := f2 (x + (8 + k)) (c.ox (8 + k) (by omega) (by omega)) (by omega)
    rw [show x + (8 + k) = x + 8 + k by omega] at this
    exact this
  have sw : ∀ k, k < 2 → sm hC hC' (x + 266 + k) := fun k hk => by
    have := f2 (x + (266 + k)) (c.ox (266 + k) (by omega) (by omega)) (by omega)
    rw [show x + (266 + k) = x + 266 + k by omega] at this
    exact this
  have sl : sm hC hC' lw := fim lw (by rw [c.kL]; unfold imK; omega)
  have e0s : sm hC hC' (e 0) := by
    rcases c.a0.c with q | q
    · exact f2 _ ((c.oe 0 (by omega)).1 q.1) (nE 0 (by omega) q.1)
    · exact (f7 _ q.2.1).1
  have e1s : sm hC hC' (e 1) := by
    rcases c.a1.c with q | q
    · exact f2 _ ((c.oe 1 (by omega)).1 q.1) (nE 1 (by omega) q.1)
    · exact (f7 _ q.2.1).1
  have e2s : sm hC hC' (e 2) := by
    rcases c.a2.c with q | q
    · exact f2 _ ((c.oe 2 (by omega)).1 q.1) (nE 2 (by omega) q.1)
    · exact (f7 _ q.2.1).1
  have e3s : sm hC hC' (e 3) := by
    rcases c.a3.c with q | q
    · exact f2 _ ((c.oe 3 (by omega)).1 q.1) (nE 3 (by omega) q.1)
    · exact (f7 _ q.2.1).1
  have e4s : sm hC hC' (e 4) := by
    rcases c.a4.c with q | q
    · exact f2 _ ((c.oe 4 (by omega)).1 q.1) (nE 4 (by omega) q.1)
    · exact (f7 _ q.2.1).1
  have es : ∀ j, j < 5 → sm hC hC' (e j) := by
    intro j hj
    rcases (show j = 0 ∨ j = 1 ∨ j = 2 ∨ j = 3 ∨ j = 4 by omega) with rfl | rfl | rfl | rfl | rfl
    · exact e0s
    · exact e1s
    · exact e2s
    · exact e3s
    · exact e4s
  have sst : ∀ i : Nat, (i : Int) < τ 0 → sm hC hC' (el 0 i) := fun i hi => f2 _ (c.os i hi).1 (by have := (c.os i hi).2; omega)
  have rg' : RG (upT (upT τ (52 + n) v) 3 (τ 3 + 1)) := ⟨by rw [hτ 0 (by omega)]; exact c.rg.n,
    by rw [hτ 1 (by omega)]; exact c.rg.d,
    by rw [hτ 2 (by omega)]; exact c.rg.h,
    by rw [upT_s]; omega,
    by rw [hτ 4 (by omega)]; exact c.rg.r,
    by rw [hτ 5 (by omega)]; exact c.rg.t,
    by rw [hτ 6 (by omega)]; exact c.rg.c,
    fun i hi => by rw [hτ _ (by omega)]; exact c.rg.cost i hi,
    fun i hi => by rw [hτ _ (by omega)]; exact c.rg.price i hi,
    fun i hi => by rw [hτ _ (by omega)]; exact c.rg.late i hi,
    fun i hi => by rw [hτ _ (by omega)]; exact c.rg.first i hi,
    fun i hi => by rw [hτ 0 (by omega)] at hi; have := c.rg.n; rw [hτ (24 + i) (by omega), hτ 2 (by omega)]; exact c.rg.chg i hi,
    fun k hk => by rw [hτ 1 (by omega)] at hk; have := c.rg.d; rw [hτ (28 + 4 * k) (by omega), hτ (29 + 4 * k) (by omega), hτ (30 + 4 * k) (by omega), hτ (31 + 4 * k) (by omega), hτ 0 (by omega)]; exact c.rg.drv k hk,
    fun i hi => by
          by_cases q : i = n
          · subst q; rw [upT_o (by omega), upT_s]; omega
          · rw [hτ _ (by omega)]; exact c.rg.lev i hi,
    fun i hi => by rw [hτ 4 (by omega)] at hi; have := c.rg.r; rw [hτ _ (by omega)]; exact c.rg.rise i hi,
    fun i hi => by rw [hτ _ (by omega)]; exact c.rg.wgt i hi,
    by rw [hτ 120 (by omega)]; exact c.rg.once,
    by rw [hτ 121 (by omega)]; exact c.rg.at,
    by rw [hτ 122 (by omega)]; exact c.rg.cap,
    by rw [hτ 123 (by omega)]; exact c.rg.told,
    by rw [hτ 124 (by omega)]; exact c.rg.byc,
    fun i hi => by rw [hτ _ (by omega)]; exact c.rg.brd i hi,
    fun i hi => by rw [hτ _ (by omega)]; exact c.rg.row i hi,
    fun k hk => by rw [hτ 6 (by omega)] at hk; have := c.rg.c; rw [hτ (3149 + 3 * k) (by omega), hτ (3150 + 3 * k) (by omega), hτ (3151 + 3 * k) (by omega)]; exact c.rg.chn k hk,
    tn'.g⟩
  have c' : CrP o 2 hC' x (upT (upT τ (52 + n) v) 3 (τ 3 + 1)) υ e el lw := ⟨by rw [kk]; exact c.k,
    by rw [kR]; exact c.r0,
    by rw [kR]; exact c.r1,
    by rw [kR]; exact c.r2,
    by rw [kR]; exact c.r3,
    by rw [kR]; exact c.r4,
    by rw [kR]; exact c.r5,
    by rw [kR]; exact c.r6,
    by rw [kR]; exact c.r7,
    by rw [kR]; exact c.r8,
    by rw [← hh, hI_wI, if_neg (by omega), hI_wI, if_neg (by omega), hτ 2 (by omega)]; exact c.i9,
    by rw [← hh, hI_wI, if_pos ⟨rfl, rfl⟩, upT_s],
    by rw [← hh]; exact c.j11,
    by rw [sx7.1]; exact c.kb,
    by rw [sx7.2.1]; exact c.lb,
    fun k hk => ⟨by rw [sx7.2.2.2.2]; exact (c.b k hk).1, by rw [(sk k hk).1]; exact (c.b k hk).2.1, by rw [(sk k hk).2.1]; exact (c.b k hk).2.2.1, fun s hs => by rw [(sk k hk).2.2.1, hτ _ (by omega)]; exact (c.b k hk).2.2.2 s hs⟩,
    by rw [kk]; exact c.kl,
    by rw [kL]; exact c.ll,
    fun i hi => by
          rw [← hh, hI_wI, if_neg (by omega), hI_wI]
          by_cases q : i = n
          · subst q; rw [if_pos ⟨rfl, rfl⟩, upT_o (by omega), upT_s]
          · rw [if_neg (by omega), hτ _ (by omega)]; exact c.l i hi,
    by rw [sx265.1]; exact c.kw,
    by rw [sx265.2.1]; exact c.lw_,
    fun s hs => ⟨by rw [sx265.2.2.2.2]; exact (c.w s hs).1, by rw [(sw s hs).1]; exact (c.w s hs).2.1, by rw [(sw s hs).2.1]; exact (c.w s hs).2.2.1, fun l hl => by rw [(sw s hs).2.2.1, hτ _ (by omega)]; exact (c.w s hs).2.2.2 l hl⟩,
    by rw [sl.1]; exact c.kL,
    by rw [sl.2.2.1, hτ 120 (by omega)]; exact c.L0,
    by rw [sl.2.2.1, hτ 121 (by omega)]; exact c.L1,
    by rw [sl.2.2.1, hτ 122 (by omega)]; exact c.L2,
    by rw [sl.2.2.1, hτ 123 (by omega)]; exact c.L3,
    by rw [sl.2.2.1, hτ 124 (by omega)]; exact c.L4,
    by rw [hτ 0 (by omega)]; exact c.a0.fr sx1 e0s h00,
    by rw [hτ 1 (by omega)]; exact c.a1.fr sx2 e1s h00,
    by rw [hτ 6 (by omega)]; exact c.a2.fr sx3 e2s h00,
    by rw [hτ 4 (by omega)]; exact c.a3.fr sx4 e3s h00,
    by rw [hτ 5 (by omega)]; exact c.a4.fr sx5 e4s h00,
    fun i hi => by
    rw [hτ 0 (by omega)] at hi
    have hi4 := c.rg.n
    exact ⟨by rw [e0s.2.2.2.2]; exact (c.st i hi).1, ((c.st i hi).2.fr fim f6 (fun a q => (f7 a q).1) h00 (sst i hi)).cg (hτ _ (by omega)) (hτ _ (by omega)) (hτ _ (by omega)) (hτ _ (by omega)) (hτ _ (by omega)) (hυ _ (by omega)) (hυ _ (by omega)) (fun j hj => hτ _ (by omega))⟩,
    fun k hk => by
    rw [hτ 1 (by omega)] at hk
    have hk6 := c.rg.d
    obtain ⟨k1, k2, k3, k4, k5, k6⟩ := c.dr k hk
    have sk := fim (el 1 k) (by rw [k2]; unfold imK; omega)
    exact ⟨by rw [e1s.2.2.2.2]; exact k1, by rw [sk.1]; exact k2, by rw [sk.2.2.1, hτ _ (by omega)]; exact k3, by rw [sk.2.2.1, hτ _ (by omega)]; exact k4, by rw [sk.2.2.1, hτ _ (by omega)]; exact k5, by rw [sk.2.2.1, hτ _ (by omega)]; exact k6⟩,
    fun k hk => by
    rw [hτ 6 (by omega)] at hk
    have hk6 := c.rg.c
    obtain ⟨k1, k2, k3, k4, k5⟩ := c.ch k hk
    have sk := fim (el 2 k) (by rw [k2]; unfold imK; omega)
    exact ⟨by rw [e2s.2.2.2.2]; exact k1, by rw [sk.1]; exact k2, by rw [sk.2.2.1, hτ _ (by omega)]; exact k3, by rw [sk.2.2.1, hτ _ (by omega)]; exact k4, by rw [sk.2.2.1, hτ _ (by omega)]; exact k5⟩,
    fun k hk => by
    rw [hτ 4 (by omega)] at hk
    have hk6 := c.rg.r
    obtain ⟨k1, k2, k3, k4, k5, k6, k7⟩ := c.ri k hk
    have sk := f6 _ k3
    refine ⟨by rw [e3s.2.2.2.2]; exact k1, by rw [sk.1.1]; exact k2, sk.2, by rw [hτ _ (by omega)]; exact k4, by rw [sk.1.2.1, hτ (61 + 3 * k) (by omega), hτ (62 + 3 * k) (by omega)]; exact k5, by rw [hτ (61 + 3 * k) (by omega), hτ (62 + 3 * k) (by omega)]; exact k6, fun j hj => ?_⟩
    rw [sk.1.2.1] at hj
    have hj3 : j < 3 := by rw [k5] at hj; split at hj <;> (try split at hj) <;> omega
    rw [sk.1.2.2.1, hτ _ (by omega)]
    exact k7 j hj,
    fun k hk => by
    rw [hτ 5 (by omega)] at hk
    have hk6 := c.rg.t
    have hk7 := c.rg.n
    obtain ⟨k1, k2, k3, k4, k5⟩ := c.to k hk
    have sk := f6 _ k3
    exact ⟨by rw [e4s.2.2.2.2]; exact k1, by rw [sk.1.1]; exact k2, sk.2, by rw [sk.1.2.1]; exact k4, fun s hs => by rw [hτ 0 (by omega)] at hs; rw [sk.1.2.2.1, hτ _ (by omega)]; exact k5 s hs⟩,
    rg',
    fun i h1 h2 => o2 _ (c.ox i h1 h2),
    fun j hj => by
    have ej := es j hj
    rw [ej.1]
    exact ⟨fun q => o2 _ ((c.oe j hj).1 q), fun q => (f7 _ q).2 ((c.oe j hj).2.1 q), (c.oe j hj).2.2⟩,
    fun j k hj hk q1 q2 => by
    rw [(es j hj).1] at q1
    exact c.ne j k hj hk q1 q2,
    fun i hi => by
    rw [hτ 0 (by omega)] at hi
    exact ⟨o2 _ (c.os i hi).1, (c.os i hi).2⟩,
    fun i j hi hj q => by
    rw [hτ 0 (by omega)] at hi hj
    exact c.ns i j hi hj q,
    fun s h1 h2 => by rw [hτ 0 (by omega)] at h1; exact c.zz s h1 h2⟩
  have w : ∀ a, a ≠ m + 1 → hI (wI (wI hT (m + 1) (52 + n) (iI v)) (m + 1) 3 (iI (τ 3 + 1))) a = hI hT a := fun a ha => ((sm_wI ha).trans (sm_wI ha)).2.2.1
  exact r.upd (fun a => a = x ∨ a = x + 264) hM s1 (fun a _ => by rw [kk]) (by omega) (fun a q => by rw [kk]; exact r.ho a (by omega)) (fun a q => by rw [kk, (r.ho a (by omega)).1]; omega) (fun _ _ => rfl) c' tn' r.tj (w _ (by omega)) rfl (w _ (by omega)) (w _ (by omega)) (w _ (by omega)) (w _ (by omega)) rfl (by rw [w _ (by omega)]) (by rw [w _ (by omega)]) (by rw [w _ (by omega)]) rfl rfl
theorem FC.w2 {z : Nat} {h : AH} {a1 k1 : Nat} {v1 : Int32} {a2 k2 : Nat} {v2 : Int32} {k : Nat} {v : Int64} (h1 : ¬ (z + 474 ≤ a1 ∧ a1 ≤ z + 495)) (h2 : ¬ (z + 474 ≤ a2 ∧ a2 ≤ z + 495)) : FC z h (wJ (wI (wI h a1 k1 v1) a2 k2 v2) (z + 495) k v) := ⟨⟨Nat.le_refl _, by rw [hc_wJ, hc_wI, hc_wI]; omega, by rw [hs_wJ, hs_wI, hs_wI]; omega⟩, fun b q1 q2 => ((sm_wI (by omega)).trans (sm_wI (by omega))).trans (sm_wJ (by omega)), Eq.refl _, Eq.refl _⟩
theorem op_level {z m : Nat} (x1 : Int32) : ∀ hC hT, Rx hC hT z m → rm z hC → Ok2 (F_X0_level hC z x1 (z + 495)) (F_X8_level hT m x1) (fun a b => VI z m a b ∧ FC z hC a.2 ∧ FT m hT b.2 ∧ Rx a.2 b.2 z m) := by
  intro hC hT ⟨o, x, τ, υ, e, el, lw, r⟩ g
  have hn4 := r.c.rg.n
  have cs := r.cs
  have c := r.c
  have hz := r.hz
  have ts0 := r.tn.s
  have tn := r.tn.wm 5 (iI 0)
  have ti := tn.i
  have ts := tn.s
  have hgi := c.rg.i
  have gr : 1 ≤ hc hC ∧ 6 ≤ hs hC := by have := g.1; have := g.2.1; omega
  obtain ⟨p, rfl, hp⟩ := i_ex x1
  have hl8 := c.rg.l
  have nx := r.nx
  have nx264 : ¬ (z + 269 ≤ x + 264 ∧ x + 264 ≤ z + 495) := fun q => by
    have h1 := r.ow (x + 264) (Or.inr q)
    have h2 := c.ox 264 (by omega) (by omega)
    omega
  obtain ⟨n, hn3⟩ := Int.eq_ofNat_of_zero_le hl8.1
  have ei := isIn_eq hC (a := p) (b := 0) (c := 99) (by omega) (by omega) (by omega)
  -- the least price that may come next
  have bad : B_X1_level_48 hC z (iI p) (iI 0) = some (.inr (2, hn hC, nw hC 0 0 6)) := by
    unfold B_X1_level_48
    simp (disch := omega) only [i_lit, i_neg, i_add, i_sub, i_mul, i_ofNat, i_div, i_le, i_lt, i_eq, i_ix, i_inb, i_max, i_min, e_rem, j_lit, j_i, Int.reduceToNat, Int.reduceAdd, Int.reduceSub, Int.reduceMul, Int.reduceNeg, Int.reduceLT, Int.reduceLE, Int.reduceEq, gd_t, gd_T, ↓bd_m, ↓lh_t, ↓on_m, ↓ec_m, ↓reduceIte, if_true, if_false, true_and, and_true, false_and, and_false, true_or, or_true, false_or, or_false, Bool.false_eq_true, b2i_0, b2i_1, bl_0, bl_1, bl_b2, not_true_eq_false, not_false_eq_true, right_f gr]
  by_cases q0 : n = 0
  · have t0 : (τ 3 = 0) = True := eq_true (by omega)
    have t8 : (τ 3 = 8) = False := eq_false (by omega)
    have ew := within_eq (wI hT m 5 (iI 0)) (a := p) (b := 0) (c := 99) (by omega) (by omega) (by omega)
    by_cases q : 0 ≤ p ∧ p ≤ 99
    · rw [b2_t q] at ei ew
      have y1 : (52 + τ 3).toNat = 52 + n := by omega
      have y2 : (τ 3).toNat = n := by omega
      have kx : hI (wI (wI hC (x + 264) n (iI p)) x 10 (iI (τ 3 + 1))) x 10 = iI (τ 3 + 1) := by rw [hI_wI, if_pos ⟨rfl, rfl⟩]
      have kx0 : hI (wI hC (x + 264) n (iI p)) x 10 = iI (τ 3) := by rw [hI_wI, if_neg (by omega)]; exact c.i10
      have kt0 : hI (wI (wI hT m 5 (iI 0)) (m + 1) (52 + n) (iI p)) (m + 1) 3 = iI (τ 3) := by rw [hI_wI, if_neg (by omega)]; exact ti 3
      have e1 : τ 3 + 1 - 1 = τ 3 := by omega
      simp (disch := omega) only [i_lit, i_neg, i_add, i_sub, i_mul, i_ofNat, i_div, i_le, i_lt, i_eq, i_ix, i_inb, i_max, i_min, e_rem, j_lit, j_i, Int.reduceToNat, Int.reduceAdd, Int.reduceSub, Int.reduceMul, Int.reduceNeg, Int.reduceLT, Int.reduceLE, Int.reduceEq, gd_t, gd_T, ↓bd_m, ↓lh_t, ↓on_m, ↓ec_m, ↓reduceIte, if_true, if_false, true_and, and_true, false_and, and_false, true_or, or_true, false_or, or_false, Bool.false_eq_true, b2i_0, b2i_1, bl_0, bl_1, bl_b2, not_true_eq_false, not_false_eq_true, F_X0_level, F_X1_level, B_X1_level_43, B_X1_level_48, B_X1_level_81, B_X1_level_94, F_X8_level, B_X8_level_5, B_X8_level_36, B_X8_level_69, B_X8_level_79, cs.k, ei, hz, c.k, c.i10, t0, t8, right_t, c.r7, c.kl, c.ll, y1, y2, hK_wI, hL_wI, hR_wI, kx0, kx, e1, g.2.2.1, g.2.2.2.1, ts0.k, ts0.r1, ts0.k1, ts0.l1, ts0.r2, ts0.k2, ts0.l2, ts0.r3, ts0.k3, ts0.l3, ts0.r4, ts0.k4, ts0.l4, ts0.r5, ts0.k5, ts0.l5, ts0.r6, ts0.k6, ts0.l6, ts0.r7, ts0.k7, ts0.l7, ts0.r8, ts0.k8, ts0.l8, ts0.r9, ts0.k9, ts0.l9, ts0.r10, ts0.k10, ts0.l10, ts0.r11, ts0.k11, ts0.l11, ts0.r12, ts0.k12, ts0.l12, ts0.r13, ts0.k13, ts0.l13, ts0.r14, ts0.k14, ts0.l14, ts0.r15, ts0.k15, ts0.l15, ts0.r16, ts0.k16, ts0.l16, ts0.r17, ts0.k17, ts0.l17, ts0.r18, ts0.k18, ts0.l18, ts0.r19, ts0.k19, ts0.l19, ts0.r20, ts0.k20, ts0.l20, ti, ew, kt0]
      refine Ok2.some ⟨⟨?_, fun _ => ?_⟩, FC.w2 (by omega) (by omega), ?_, ⟨o, x, _, υ, e, el, lw, ((r.thr 5 (by omega) (iI 0)).lev hn3 (by omega) q).outk g.2.2.2.2 _ _⟩⟩
      · rw [hI_wI, if_neg (by omega), hI_wI, if_neg (by omega), hI5]
      · rw [hJ_wJ, if_pos ⟨rfl, rfl⟩]; first | rfl | exact (j_i (by omega)).symm
      · exact ((FT.thr _ _ _ _).trans (tf_wI (by omega))).trans (tf_wI (by omega))
    · rw [b2_f q] at ei ew
      simp (disch := omega) only [i_lit, i_neg, i_add, i_sub, i_mul, i_ofNat, i_div, i_le, i_lt, i_eq, i_ix, i_inb, i_max, i_min, e_rem, j_lit, j_i, Int.reduceToNat, Int.reduceAdd, Int.reduceSub, Int.reduceMul, Int.reduceNeg, Int.reduceLT, Int.reduceLE, Int.reduceEq, gd_t, gd_T, ↓bd_m, ↓lh_t, ↓on_m, ↓ec_m, ↓reduceIte, if_true, if_false, true_and, and_true, false_and, and_false, true_or, or_true, false_or, or_false, Bool.false_eq_true, b2i_0, b2i_1, bl_0, bl_1, bl_b2, not_true_eq_false, not_false_eq_true, F_X0_level, F_X1_level, B_X1_level_47, bad, B_X0_level_12, F_X8_level, B_X8_level_5, B_X8_level_36, cs.k, ei, t0, ts0.k, ts0.r1, ts0.k1, ts0.l1, ts0.r2, ts0.k2, ts0.l2, ts0.r3, ts0.k3, ts0.l3, ts0.r4, ts0.k4, ts0.l4, ts0.r5, ts0.k5, ts0.l5, ts0.r6, ts0.k6, ts0.l6, ts0.r7, ts0.k7, ts0.l7, ts0.r8, ts0.k8, ts0.l8, ts0.r9, ts0.k9, ts0.l9, ts0.r10, ts0.k10, ts0.l10, ts0.r11, ts0.k11, ts0.l11, ts0.r12, ts0.k12, ts0.l12, ts0.r13, ts0.k13, ts0.l13, ts0.r14, ts0.k14, ts0.l14, ts0.r15, ts0.k15, ts0.l15, ts0.r16, ts0.k16, ts0.l16, ts0.r17, ts0.k17, ts0.l17, ts0.r18, ts0.k18, ts0.l18, ts0.r19, ts0.k19, ts0.l19, ts0.r20, ts0.k20, ts0.l20, hK_wI, hL_wI, hR_wI, ti, ew, fails_eq ts.k, Nat.reduceEqDiff]
      exact Ok2.some (r.bad _ (by decide))
  · have t0 : (τ 3 = 0) = False := eq_false (by omega)
    have lv := c.rg.lev (n - 1) (by omega)
    have y0 : (52 + τ 3 - 1).toNat = 52 + (n - 1) := by omega
    have y3 : (τ 3 - 1).toNat = n - 1 := by omega
    have l1 := c.l (n - 1) (by omega)
    have ew := within_eq (wI hT m 5 (iI 0)) (a := p) (b := τ (52 + (n - 1)) + 1) (c := 99) (by omega) (by omega) (by omega)
    by_cases q : 0 ≤ p ∧ p ≤ 99
    · rw [b2_t q] at ei
      by_cases q1 : p ≤ τ (52 + (n - 1))
      · rw [b2_f (by omega)] at ew
        simp (disch := omega) only [i_lit, i_neg, i_add, i_sub, i_mul, i_ofNat, i_div, i_le, i_lt, i_eq, i_ix, i_inb, i_max, i_min, e_rem, j_lit, j_i, Int.reduceToNat, Int.reduceAdd, Int.reduceSub, Int.reduceMul, Int.reduceNeg, Int.reduceLT, Int.reduceLE, Int.reduceEq, gd_t, gd_T, ↓bd_m, ↓lh_t, ↓on_m, ↓ec_m, ↓reduceIte, if_true, if_false, true_and, and_true, false_and, and_false, true_or, or_true, false_or, or_false, Bool.false_eq_true, b2i_0, b2i_1, bl_0, bl_1, bl_b2, not_true_eq_false, not_false_eq_true, F_X0_level, F_X1_level, B_X1_level_47, bad, B_X0_level_12, F_X8_level, B_X8_level_5, B_X8_level_36, cs.k, ei, hz, c.k, c.i10, t0, c.r7, c.kl, c.ll, y3, l1, q1, ts0.k, ts0.r1, ts0.k1, ts0.l1, ts0.r2, ts0.k2, ts0.l2, ts0.r3, ts0.k3, ts0.l3, ts0.r4, ts0.k4, ts0.l4, ts0.r5, ts0.k5, ts0.l5, ts0.r6, ts0.k6, ts0.l6, ts0.r7, ts0.k7, ts0.l7, ts0.r8, ts0.k8, ts0.l8, ts0.r9, ts0.k9, ts0.l9, ts0.r10, ts0.k10, ts0.l10, ts0.r11, ts0.k11, ts0.l11, ts0.r12, ts0.k12, ts0.l12, ts0.r13, ts0.k13, ts0.l13, ts0.r14, ts0.k14, ts0.l14, ts0.r15, ts0.k15, ts0.l15, ts0.r16, ts0.k16, ts0.l16, ts0.r17, ts0.k17, ts0.l17, ts0.r18, ts0.k18, ts0.l18, ts0.r19, ts0.k19, ts0.l19, ts0.r20, ts0.k20, ts0.l20, hK_wI, hL_wI, hR_wI, ti, y0, ew, fails_eq ts.k, Nat.reduceEqDiff]
        exact Ok2.some (r.bad _ (by decide))
      · rw [b2_t (by omega)] at ew
        by_cases q8 : n = 8
        · have t8 : (τ 3 = 8) = True := eq_true (by omega)
          simp (disch := omega) only [i_lit, i_neg, i_add, i_sub, i_mul, i_ofNat, i_div, i_le, i_lt, i_eq, i_ix, i_inb, i_max, i_min, e_rem, j_lit, j_i, Int.reduceToNat, Int.reduceAdd, Int.reduceSub, Int.reduceMul, Int.reduceNeg, Int.reduceLT, Int.reduceLE, Int.reduceEq, gd_t, gd_T, ↓bd_m, ↓lh_t, ↓on_m, ↓ec_m, ↓reduceIte, if_true, if_false, true_and, and_true, false_and, and_false, true_or, or_true, false_or, or_false, Bool.false_eq_true, b2i_0, b2i_1, bl_0, bl_1, bl_b2, not_true_eq_false, not_false_eq_true, F_X0_level, F_X1_level, B_X1_level_43, B_X1_level_48, F_X8_level, B_X8_level_5, B_X8_level_36, cs.k, ei, hz, c.k, c.i10, t0, t8, right_t, c.r7, c.kl, c.ll, y3, l1, q1, g.2.2.1, g.2.2.2.1, ts0.k, ts0.r1, ts0.k1, ts0.l1, ts0.r2, ts0.k2, ts0.l2, ts0.r3, ts0.k3, ts0.l3, ts0.r4, ts0.k4, ts0.l4, ts0.r5, ts0.k5, ts0.l5, ts0.r6, ts0.k6, ts0.l6, ts0.r7, ts0.k7, ts0.l7, ts0.r8, ts0.k8, ts0.l8, ts0.r9, ts0.k9, ts0.l9, ts0.r10, ts0.k10, ts0.l10, ts0.r11, ts0.k11, ts0.l11, ts0.r12, ts0.k12, ts0.l12, ts0.r13, ts0.k13, ts0.l13, ts0.r14, ts0.k14, ts0.l14, ts0.r15, ts0.k15, ts0.l15, ts0.r16, ts0.k16, ts0.l16, ts0.r17, ts0.k17, ts0.l17, ts0.r18, ts0.k18, ts0.l18, ts0.r19, ts0.k19, ts0.l19, ts0.r20, ts0.k20, ts0.l20, hK_wI, hL_wI, hR_wI, ti, y0, ew]
          exact Ok2.some (r.finT g (tf0 (P := GP z)) GP_scr (tf0 (P := TP m)) TP_rng _ _ (j_i (by omega)).symm)
        · have t8 : (τ 3 = 8) = False := eq_false (by omega)
          have y1 : (52 + τ 3).toNat = 52 + n := by omega
          have y2 : (τ 3).toNat = n := by omega
          have kx : hI (wI (wI hC (x + 264) n (iI p)) x 10 (iI (τ 3 + 1))) x 10 = iI (τ 3 + 1) := by rw [hI_wI, if_pos ⟨rfl, rfl⟩]
          have kx0 : hI (wI hC (x + 264) n (iI p)) x 10 = iI (τ 3) := by rw [hI_wI, if_neg (by omega)]; exact c.i10
          have kt0 : hI (wI (wI hT m 5 (iI 0)) (m + 1) (52 + n) (iI p)) (m + 1) 3 = iI (τ 3) := by rw [hI_wI, if_neg (by omega)]; exact ti 3
          have e1 : τ 3 + 1 - 1 = τ 3 := by omega
          simp (disch := omega) only [i_lit, i_neg, i_add, i_sub, i_mul, i_ofNat, i_div, i_le, i_lt, i_eq, i_ix, i_inb, i_max, i_min, e_rem, j_lit, j_i, Int.reduceToNat, Int.reduceAdd, Int.reduceSub, Int.reduceMul, Int.reduceNeg, Int.reduceLT, Int.reduceLE, Int.reduceEq, gd_t, gd_T, ↓bd_m, ↓lh_t, ↓on_m, ↓ec_m, ↓reduceIte, if_true, if_false, true_and, and_true, false_and, and_false, true_or, or_true, false_or, or_false, Bool.false_eq_true, b2i_0, b2i_1, bl_0, bl_1, bl_b2, not_true_eq_false, not_false_eq_true, F_X0_level, F_X1_level, B_X1_level_43, B_X1_level_48, B_X1_level_81, B_X1_level_94, F_X8_level, B_X8_level_5, B_X8_level_36, B_X8_level_69, B_X8_level_79, cs.k, ei, hz, c.k, c.i10, t0, t8, right_t, c.r7, c.kl, c.ll, y0, y1, y2, y3, l1, q1, hK_wI, hL_wI, hR_wI, kx0, kx, e1, g.2.2.1, g.2.2.2.1, ts0.k, ts0.r1, ts0.k1, ts0.l1, ts0.r2, ts0.k2, ts0.l2, ts0.r3, ts0.k3, ts0.l3, ts0.r4, ts0.k4, ts0.l4, ts0.r5, ts0.k5, ts0.l5, ts0.r6, ts0.k6, ts0.l6, ts0.r7, ts0.k7, ts0.l7, ts0.r8, ts0.k8, ts0.l8, ts0.r9, ts0.k9, ts0.l9, ts0.r10, ts0.k10, ts0.l10, ts0.r11, ts0.k11, ts0.l11, ts0.r12, ts0.k12, ts0.l12, ts0.r13, ts0.k13, ts0.l13, ts0.r14, ts0.k14, ts0.l14, ts0.r15, ts0.k15, ts0.l15, ts0.r16, ts0.k16, ts0.l16, ts0.r17, ts0.k17, ts0.l17, ts0.r18, ts0.k18, ts0.l18, ts0.r19, ts0.k19, ts0.l19, ts0.r20, ts0.k20, ts0.l20, ti, ew, kt0]
          refine Ok2.some ⟨⟨?_, fun _ => ?_⟩, FC.w2 (by omega) (by omega), ?_, ⟨o, x, _, υ, e, el, lw, ((r.thr 5 (by omega) (iI 0)).lev hn3 (by omega) q).outk g.2.2.2.2 _ _⟩⟩
          · rw [hI_wI, if_neg (by omega), hI_wI, if_neg (by omega), hI5]
          · rw [hJ_wJ, if_pos ⟨rfl, rfl⟩]; first | rfl | exact (j_i (by omega)).symm
          · exact ((FT.thr _ _ _ _).trans (tf_wI (by omega))).trans (tf_wI (by omega))
    · rw [b2_f q] at ei
      rw [b2_f (by omega)] at ew
      simp (disch := omega) only [i_lit, i_neg, i_add, i_sub, i_mul, i_ofNat, i_div, i_le, i_lt, i_eq, i_ix, i_inb, i_max, i_min, e_rem, j_lit, j_i, Int.reduceToNat, Int.reduceAdd, Int.reduceSub, Int.reduceMul, Int.reduceNeg, Int.reduceLT, Int.reduceLE, Int.reduceEq, gd_t, gd_T, ↓bd_m, ↓lh_t, ↓on_m, ↓ec_m, ↓reduceIte, if_true, if_false, true_and, and_true, false_and, and_false, true_or, or_true, false_or, or_false, Bool.false_eq_true, b2i_0, b2i_1, bl_0, bl_1, bl_b2, not_true_eq_false, not_false_eq_true, F_X0_level, F_X1_level, B_X1_level_47, bad, B_X0_level_12, F_X8_level, B_X8_level_5, B_X8_level_36, cs.k, ei, t0, ts0.k, ts0.r1, ts0.k1, ts0.l1, ts0.r2, ts0.k2, ts0.l2, ts0.r3, ts0.k3, ts0.l3, ts0.r4, ts0.k4, ts0.l4, ts0.r5, ts0.k5, ts0.l5, ts0.r6, ts0.k6, ts0.l6, ts0.r7, ts0.k7, ts0.l7, ts0.r8, ts0.k8, ts0.l8, ts0.r9, ts0.k9, ts0.l9, ts0.r10, ts0.k10, ts0.l10, ts0.r11, ts0.k11, ts0.l11, ts0.r12, ts0.k12, ts0.l12, ts0.r13, ts0.k13, ts0.l13, ts0.r14, ts0.k14, ts0.l14, ts0.r15, ts0.k15, ts0.l15, ts0.r16, ts0.k16, ts0.l16, ts0.r17, ts0.k17, ts0.l17, ts0.r18, ts0.k18, ts0.l18, ts0.r19, ts0.k19, ts0.l19, ts0.r20, ts0.k20, ts0.l20, hK_wI, hL_wI, hR_wI, ti, y0, ew, fails_eq ts.k, Nat.reduceEqDiff]
      exact Ok2.some (r.bad _ (by decide))
