/-! PURE GG: turn, gains -/
set_option maxRecDepth 100000
theorem lp_s {σ α : Type} (body : (σ → Option α) → σ → Option α) (n : Nat) (s : σ) : lp body (n + 1) s = body (lp body n) s := Eq.refl _
theorem turn_walk {g gT : AH} {z x m : Nat} {τ : Nat → Int} {A B : Nat → Nat → Int} (GC : GTC g z x (τ 3) A B) (GT : GTT gT m τ A B) {h k : Nat} (hh : h ≤ 40) (hk : k < h) (R1 : TRs g gT z m (τ 3) h 0) : ∀ (d t s n1 n2 : Nat), t + d = k → (s : Int) < τ 3 → d + 2 ≤ n1 → d + 1 ≤ n2 → ∃ w : Nat, (w : Int) < τ 3 ∧ lp (L_X1_turn_32 g) n1 (g, z, iI k, iI s, iI t) = some (.inl (iI w, g)) ∧ lp (L_X8_turn_53 gT) n2 (gT, m, iI k, iI s, iI t) = some (iI w, gT) := by
  have hl8 := GT.2.1
  obtain ⟨cs, hz, kx, ix_, -, tb⟩ := GC
  have ts := GT.1.s
  intro d
  induction d with
  | zero =>
    intro t s n1 n2 e1 hs h1 h2
    obtain ⟨a, rfl⟩ : ∃ a, n1 = a + 1 + 1 := ⟨n1 - 2, by omega⟩
    obtain ⟨b, rfl⟩ : ∃ b, n2 = b + 1 := ⟨n2 - 1, by omega⟩
    obtain ⟨ch, c1, c2, c3⟩ := R1.2 t s (by omega) (by omega) hs
    have wC := cs.w294 t (by omega)
    have y2 : (8 * (t : Int) + (s : Int)).toNat = 8 * t + s := by omega
    have e1 : k = t := by omega
    subst e1
    refine ⟨ch, c1, ?_, ?_⟩
    · rw [lp_s]
      show B_X1_turn_32 g (fun h a0 x5 x6 x7 => lp (L_X1_turn_32 g) (a + 1) (h, a0, x5, x6, x7)) z (iI k) (iI s) (iI k) = _
      have q1 : ((k : Int) < (k : Int)) = False := eq_false (by omega)
      have q2 : ((k : Int) < (k : Int) + 1) = True := eq_true (by omega)
      simp (disch := omega) only [i_lit, i_neg, i_add, i_sub, i_mul, i_ofNat, i_div, i_le, i_lt, i_eq, i_ix, i_inb, i_max, i_min, e_rem, j_lit, j_i, Int.reduceToNat, Int.reduceAdd, Int.reduceSub, Int.reduceMul, Int.reduceNeg, Int.reduceLT, Int.reduceLE, Int.reduceEq, gd_t, gd_T, ↓bd_m, ↓on_m, ↓ec_m, ↓reduceIte, if_true, if_false, true_and, and_true, false_and, and_false, true_or, or_true, false_or, or_false, Bool.false_eq_true, b2i_0, b2i_1, bl_0, bl_1, bl_b2, not_true_eq_false, not_false_eq_true, B_X1_turn_32, cs.k, cs.r294, cs.k294, cs.l294, wC.1, wC.2.1, wC.2.2, c2, q1, Int.toNat_natCast]
      rw [lp_s]
      show B_X1_turn_32 g (fun h a0 x5 x6 x7 => lp (L_X1_turn_32 g) a (h, a0, x5, x6, x7)) z (iI k) (iI ch) (iI (k + 1)) = _
      simp (disch := omega) only [i_lit, i_neg, i_add, i_sub, i_mul, i_ofNat, i_div, i_le, i_lt, i_eq, i_ix, i_inb, i_max, i_min, e_rem, j_lit, j_i, Int.reduceToNat, Int.reduceAdd, Int.reduceSub, Int.reduceMul, Int.reduceNeg, Int.reduceLT, Int.reduceLE, Int.reduceEq, gd_t, gd_T, ↓bd_m, ↓on_m, ↓ec_m, ↓reduceIte, if_true, if_false, true_and, and_true, false_and, and_false, true_or, or_true, false_or, or_false, Bool.false_eq_true, b2i_0, b2i_1, bl_0, bl_1, bl_b2, not_true_eq_false, not_false_eq_true, B_X1_turn_32, B_X1_turn_57, q2]
    · rw [lp_s]
      show B_X8_turn_53 gT (fun h a0 x5 x6 x7 => lp (L_X8_turn_53 gT) b (h, a0, x5, x6, x7)) m (iI k) (iI s) (iI k) = _
      have q1 : ((k : Int) ≤ (k : Int)) = True := eq_true (by omega)
      simp (disch := omega) only [i_lit, i_neg, i_add, i_sub, i_mul, i_ofNat, i_div, i_le, i_lt, i_eq, i_ix, i_inb, i_max, i_min, e_rem, j_lit, j_i, Int.reduceToNat, Int.reduceAdd, Int.reduceSub, Int.reduceMul, Int.reduceNeg, Int.reduceLT, Int.reduceLE, Int.reduceEq, gd_t, gd_T, ↓bd_m, ↓on_m, ↓ec_m, ↓reduceIte, if_true, if_false, true_and, and_true, false_and, and_false, true_or, or_true, false_or, or_false, Bool.false_eq_true, b2i_0, b2i_1, bl_0, bl_1, bl_b2, not_true_eq_false, not_false_eq_true, B_X8_turn_53, B_X8_turn_81, ts.k, ts.r1, ts.k1, ts.l1, ts.r2, ts.k2, ts.l2, ts.r3, ts.k3, ts.l3, ts.r4, ts.k4, ts.l4, ts.r5, ts.k5, ts.l5, ts.r6, ts.k6, ts.l6, ts.r7, ts.k7, ts.l7, ts.r8, ts.k8, ts.l8, ts.r9, ts.k9, ts.l9, ts.r10, ts.k10, ts.l10, ts.r11, ts.k11, ts.l11, ts.r12, ts.k12, ts.l12, ts.r13, ts.k13, ts.l13, ts.r14, ts.k14, ts.l14, ts.r15, ts.k15, ts.l15, ts.r16, ts.k16, ts.l16, ts.r17, ts.k17, ts.l17, ts.r18, ts.k18, ts.l18, ts.r19, ts.k19, ts.l19, ts.r20, ts.k20, ts.l20, y2, c3, q1]
  | succ d ih =>
    intro t s n1 n2 e1 hs h1 h2
    obtain ⟨a, rfl⟩ : ∃ a, n1 = a + 1 := ⟨n1 - 1, by omega⟩
    obtain ⟨b, rfl⟩ : ∃ b, n2 = b + 1 := ⟨n2 - 1, by omega⟩
    obtain ⟨ch, c1, c2, c3⟩ := R1.2 t s (by omega) (by omega) hs
    have wC := cs.w294 t (by omega)
    have y2 : (8 * (t : Int) + (s : Int)).toNat = 8 * t + s := by omega
    obtain ⟨w, w1, w2, w3⟩ := ih (t + 1) ch a b (by omega) c1 (by omega) (by omega)
    rw [show (((t + 1 : Nat)) : Int) = (t : Int) + 1 by omega] at w2 w3
    refine ⟨w, w1, ?_, ?_⟩
    · rw [lp_s]
      show B_X1_turn_32 g (fun h a0 x5 x6 x7 => lp (L_X1_turn_32 g) a (h, a0, x5, x6, x7)) z (iI k) (iI s) (iI t) = _
      have q1 : ((k : Int) < (t : Int)) = False := eq_false (by omega)
      simp (disch := omega) only [i_lit, i_neg, i_add, i_sub, i_mul, i_ofNat, i_div, i_le, i_lt, i_eq, i_ix, i_inb, i_max, i_min, e_rem, j_lit, j_i, Int.reduceToNat, Int.reduceAdd, Int.reduceSub, Int.reduceMul, Int.reduceNeg, Int.reduceLT, Int.reduceLE, Int.reduceEq, gd_t, gd_T, ↓bd_m, ↓on_m, ↓ec_m, ↓reduceIte, if_true, if_false, true_and, and_true, false_and, and_false, true_or, or_true, false_or, or_false, Bool.false_eq_true, b2i_0, b2i_1, bl_0, bl_1, bl_b2, not_true_eq_false, not_false_eq_true, B_X1_turn_32, cs.k, cs.r294, cs.k294, cs.l294, wC.1, wC.2.1, wC.2.2, c2, q1, Int.toNat_natCast]
      exact w2
    · rw [lp_s]
      show B_X8_turn_53 gT (fun h a0 x5 x6 x7 => lp (L_X8_turn_53 gT) b (h, a0, x5, x6, x7)) m (iI k) (iI s) (iI t) = _
      have q1 : ((k : Int) ≤ (t : Int)) = False := eq_false (by omega)
      simp (disch := omega) only [i_lit, i_neg, i_add, i_sub, i_mul, i_ofNat, i_div, i_le, i_lt, i_eq, i_ix, i_inb, i_max, i_min, e_rem, j_lit, j_i, Int.reduceToNat, Int.reduceAdd, Int.reduceSub, Int.reduceMul, Int.reduceNeg, Int.reduceLT, Int.reduceLE, Int.reduceEq, gd_t, gd_T, ↓bd_m, ↓on_m, ↓ec_m, ↓reduceIte, if_true, if_false, true_and, and_true, false_and, and_false, true_or, or_true, false_or, or_false, Bool.false_eq_true, b2i_0, b2i_1, bl_0, bl_1, bl_b2, not_true_eq_false, not_false_eq_true, B_X8_turn_53, ts.k, ts.r1, ts.k1, ts.l1, ts.r2, ts.k2, ts.l2, ts.r3, ts.k3, ts.l3, ts.r4, ts.k4, ts.l4, ts.r5, ts.k5, ts.l5, ts.r6, ts.k6, ts.l6, ts.r7, ts.k7, ts.l7, ts.r8, ts.k8, ts.l8, ts.r9, ts.k9, ts.l9, ts.r10, ts.k10, ts.l10, ts.r11, ts.k11, ts.l11, ts.r12, ts.k12, ts.l12, ts.r13, ts.k13, ts.l13, ts.r14, ts.k14, ts.l14, ts.r15, ts.k15, ts.l15, ts.r16, ts.k16, ts.l16, ts.r17, ts.k17, ts.l17, ts.r18, ts.k18, ts.l18, ts.r19, ts.k19, ts.l19, ts.r20, ts.k20, ts.l20, y2, c3, q1]
      exact w3
theorem RL.nx {o : Nat → Nat} {hC hT : AH} {z m x : Nat} {τ : Nat → Int} {υ : Nat → Int64} {e : Nat → Nat} {el : Nat → Nat → Nat} {lw : Nat} (r : RL o hC hT z m x τ υ e el lw) : ¬ (z + 269 ≤ x ∧ x ≤ z + 495) := fun q => by
  have h1 := r.ow x (Or.inr q)
  have h2 := r.c.ox 0 (by omega) (by omega)
  rw [Nat.add_zero] at h2
  omega
def GSP (z a : Nat) : Prop := GP z a ∨ SP z a
def TQP (m a : Nat) : Prop := TP m a ∨ QP m a
theorem GSP_scr {z : Nat} : ∀ a, GSP z a → scr z a := fun a q => by unfold GSP GP SP at q; unfold scr; omega
theorem TQP_rng {m : Nat} : ∀ a, TQP m a → m + 7 ≤ a ∧ a ≤ m + 17 := fun a q => by unfold TQP TP QP at q; omega
theorem turn_laid {o : Nat → Nat} {hC hT : AH} {z m x : Nat} {τ : Nat → Int} {υ : Nat → Int64} {e : Nat → Nat} {el : Nat → Nat → Nat} {lw : Nat} (r : RL o hC hT z m x τ υ e el lw) (g : rm z hC) {a b : Nat} (ha : (a : Int) < τ 0) (hb : (b : Int) < τ 0) (hab : a ≠ b) (hn1 : 1 ≤ τ 3) {h : Nat} (hh : 1 ≤ h ∧ h ≤ 40) : ∃ hC1 hC' hT' A B, F_X1_laysGame hC z (iI a) (iI b) = some hC1 ∧ hK hC1 z = 1 ∧ F_X1_foresees hC1 z (iI h) = some hC' ∧ F_X8_layTurns (wI hT m 5 (iI 0)) m (iI a) (iI b) (iI h) = some hT' ∧ tf (GSP z) hC hC' ∧ tf (TQP m) (wI hT m 5 (iI 0)) hT' ∧ GTC hC' z x (τ 3) A B ∧ GTT hT' m τ A B ∧ TRs hC' hT' z m (τ 3) h 0 ∧ hK hC' (z + 495) = 102 ∧ hL hC' (z + 495) = 1 := by
  obtain ⟨hC1, hT1, A, B, w1, w2, T1, T2, GC, GT, bA, bB, ko, lo⟩ := game_laid r g ha hb hab
  obtain ⟨hC', hT', u1, u2, S1, S2, RR⟩ := turns_run GC GT bA bB r.nx hn1 hh
  have ts := (r.tn.wm 5 (iI 0)).s
  refine ⟨hC1, hC', hT', A, B, w1, GC.1.k, u1, ?_, (T1.mono (fun _ q => Or.inl q)).trans (S1.mono (fun _ q => Or.inr q)), (T2.mono (fun _ q => Or.inl q)).trans (S2.mono (fun _ q => Or.inr q)), GC.fr r.nx S1, GT.fr S2, RR, by rw [S1.K]; exact ko, by rw [S1.L]; exact lo⟩
  unfold F_X8_layTurns
  simp (disch := omega) only [i_lit, i_neg, i_add, i_sub, i_mul, i_ofNat, i_div, i_le, i_lt, i_eq, i_ix, i_inb, i_max, i_min, e_rem, j_lit, j_i, Int.reduceToNat, Int.reduceAdd, Int.reduceSub, Int.reduceMul, Int.reduceNeg, Int.reduceLT, Int.reduceLE, Int.reduceEq, gd_t, gd_T, ↓bd_m, ↓on_m, ↓ec_m, ↓reduceIte, if_true, if_false, true_and, and_true, false_and, and_false, true_or, or_true, false_or, or_false, Bool.false_eq_true, b2i_0, b2i_1, bl_0, bl_1, bl_b2, not_true_eq_false, not_false_eq_true, ts.k, w2]
  exact u2
theorem tf0 {P : Nat → Prop} {h : AH} : tf P h h := tf.rfl
theorem op_turn {z m : Nat} (x1 x2 x3 x4 x5 : Int32) : ∀ hC hT, Rx hC hT z m → rm z hC → Ok2 (F_X0_turn hC z x1 x2 x3 x4 x5 (z + 495)) (F_X8_turn hT m x1 x2 x3 x4 x5) (fun a b => VI z m a b ∧ FC z hC a.2 ∧ FT m hT b.2 ∧ Rx a.2 b.2 z m) := by
  intro hC hT ⟨o, x, τ, υ, e, el, lw, r⟩ g
  have hn4 := r.c.rg.n
  have cs := r.cs
  have c := r.c
  have hz := r.hz
  have ts0 := r.tn.s
  have tn := r.tn.wm 5 (iI 0)
  have ti := tn.i
  have ts := tn.s
  have hgi := c.rg.i
  have gr : 1 ≤ hc hC ∧ 6 ≤ hs hC := by have := g.1; have := g.2.1; omega
  obtain ⟨ia, rfl, h1⟩ := i_ex x1
  obtain ⟨ib, rfl, h2⟩ := i_ex x2
  obtain ⟨j, rfl, h3⟩ := i_ex x3
  obtain ⟨h, rfl, h4⟩ := i_ex x4
  obtain ⟨k, rfl, h5⟩ := i_ex x5
  have l0 := isLevel_eq r.tn c.rg h3
  have hw := within_eq hT (a := h) (b := 1) (c := 40) (by omega) (by omega) (by omega)
  have hi := isIn_eq hC (a := h) (b := 1) (c := 40) (by omega) (by omega) (by omega)
  rcases two_cases r gr h1 h2 with ⟨a, b, rfl, rfl, ha, hb, hab, e1, e2⟩ | ⟨e1, e2⟩ | ⟨e1, e2⟩
  · have e2 := e2 hT r.tn
    by_cases q1 : 1 ≤ h ∧ h ≤ 40
    · rw [b2_t q1] at hw hi
      by_cases q2 : 0 ≤ j ∧ j ≤ τ 3 - 1
      · rw [b2_t q2] at l0
        have m2 := mustBeLevel_t r q2
        obtain ⟨h, rfl⟩ := Int.eq_ofNat_of_zero_le (show 0 ≤ h by omega)
        obtain ⟨j, rfl⟩ := Int.eq_ofNat_of_zero_le q2.1
        obtain ⟨hC1, hC', hT', A, B, w1, w1k, w2, w3, T1, T2, GC, GT, RR, ko, lo⟩ := turn_laid r g ha hb hab (by omega) (h := h) (by omega)
        have kw := within_eq (wI hT m 5 (iI 0)) (a := k) (b := 0) (c := (h : Int) - 1) (by omega) (by omega) (by omega)
        have ki := isIn_eq hC' (a := k) (b := 0) (c := (h : Int) - 1) (by omega) (by omega) (by omega)
        by_cases q3 : 0 ≤ k ∧ k ≤ (h : Int) - 1
        · rw [b2_t q3] at kw ki
          obtain ⟨k, rfl⟩ := Int.eq_ofNat_of_zero_le q3.1
          obtain ⟨w, v1, v2, v3⟩ := turn_walk GC GT (h := h) (k := k) (by omega) (by omega) RR k 0 j fuel fuel (by omega) (by omega) (by unfold fuel; omega) (by unfold fuel; omega)
          have v2 : G_X1_turn_32 hC' z (iI k) (iI j) (iI 0) = some (.inl (iI w, hC')) := v2
          have v3 : G_X8_turn_53 hT' m (iI k) (iI j) (iI 0) = some (iI w, hT') := v3
          have hl8 := GT.2.1
          simp (disch := omega) only [i_lit, i_neg, i_add, i_sub, i_mul, i_ofNat, i_div, i_le, i_lt, i_eq, i_ix, i_inb, i_max, i_min, e_rem, j_lit, j_i, Int.reduceToNat, Int.reduceAdd, Int.reduceSub, Int.reduceMul, Int.reduceNeg, Int.reduceLT, Int.reduceLE, Int.reduceEq, gd_t, gd_T, ↓bd_m, ↓lh_t, ↓on_m, ↓ec_m, ↓reduceIte, if_true, if_false, true_and, and_true, false_and, and_false, true_or, or_true, false_or, or_false, Bool.false_eq_true, b2i_0, b2i_1, bl_0, bl_1, bl_b2, not_true_eq_false, not_false_eq_true, F_X0_turn, F_X1_turn, F_X1_mustTurn, F_X8_turn, F_X8_turnFault, B_X8_turnFault_48, B_X8_turn_13, cs.k, e1, hi, right_t, m2, w1, w1k, w2, ki, v2, ko, lo, ts0.k, e2, hw, l0, hK_wI, hI5, kw, w3, v3]
          exact Ok2.some (r.finT g T1 GSP_scr T2 TQP_rng _ _ (j_i (by omega)).symm)
        · rw [b2_f q3] at kw ki
          simp (disch := omega) only [i_lit, i_neg, i_add, i_sub, i_mul, i_ofNat, i_div, i_le, i_lt, i_eq, i_ix, i_inb, i_max, i_min, e_rem, j_lit, j_i, Int.reduceToNat, Int.reduceAdd, Int.reduceSub, Int.reduceMul, Int.reduceNeg, Int.reduceLT, Int.reduceLE, Int.reduceEq, gd_t, gd_T, ↓bd_m, ↓lh_t, ↓on_m, ↓ec_m, ↓reduceIte, if_true, if_false, true_and, and_true, false_and, and_false, true_or, or_true, false_or, or_false, Bool.false_eq_true, b2i_0, b2i_1, bl_0, bl_1, bl_b2, not_true_eq_false, not_false_eq_true, F_X0_turn, F_X1_turn, F_X1_mustTurn, F_X8_turn, F_X8_turnFault, B_X8_turnFault_48, B_X8_turn_13, cs.k, e1, hi, right_t, m2, w1, w1k, w2, ki, ko, lo, ts0.k, e2, hw, l0, hK_wI, hI5, kw]
          exact Ok2.some (r.finT g T1 GSP_scr (tf0 (P := TQP m)) TQP_rng _ _ (j_i (by omega)).symm)
      · rw [b2_f q2] at l0
        have m2 := mustBeLevel_f r gr h3 q2
        simp (disch := omega) only [i_lit, i_neg, i_add, i_sub, i_mul, i_ofNat, i_div, i_le, i_lt, i_eq, i_ix, i_inb, i_max, i_min, e_rem, j_lit, j_i, Int.reduceToNat, Int.reduceAdd, Int.reduceSub, Int.reduceMul, Int.reduceNeg, Int.reduceLT, Int.reduceLE, Int.reduceEq, gd_t, gd_T, ↓bd_m, ↓lh_t, ↓on_m, ↓ec_m, ↓reduceIte, if_true, if_false, true_and, and_true, false_and, and_false, true_or, or_true, false_or, or_false, Bool.false_eq_true, b2i_0, b2i_1, bl_0, bl_1, bl_b2, not_true_eq_false, not_false_eq_true, F_X0_turn, F_X1_turn, F_X1_mustTurn, B_X0_turn_27, F_X8_turn, F_X8_turnFault, B_X8_turnFault_48, B_X8_turn_13, cs.k, e1, hi, right_t, m2, ts0.k, e2, hw, l0, hK_wI, hI5, Nat.reduceEqDiff]
        exact Ok2.some (r.bad1 _ (by decide))
    · rw [b2_f q1] at hw hi
      simp (disch := omega) only [i_lit, i_neg, i_add, i_sub, i_mul, i_ofNat, i_div, i_le, i_lt, i_eq, i_ix, i_inb, i_max, i_min, e_rem, j_lit, j_i, Int.reduceToNat, Int.reduceAdd, Int.reduceSub, Int.reduceMul, Int.reduceNeg, Int.reduceLT, Int.reduceLE, Int.reduceEq, gd_t, gd_T, ↓bd_m, ↓lh_t, ↓on_m, ↓ec_m, ↓reduceIte, if_true, if_false, true_and, and_true, false_and, and_false, true_or, or_true, false_or, or_false, Bool.false_eq_true, b2i_0, b2i_1, bl_0, bl_1, bl_b2, not_true_eq_false, not_false_eq_true, F_X0_turn, F_X1_turn, F_X1_mustTurn, B_X0_turn_23, F_X8_turn, F_X8_turnFault, B_X8_turnFault_48, B_X8_turn_13, cs.k, e1, hi, right_f gr, ts0.k, e2, hw, hK_wI, hI5, Nat.reduceEqDiff]
      exact Ok2.some (r.bad1 _ (by decide))
  · have e2 := e2 hT r.tn
    simp (disch := omega) only [i_lit, i_neg, i_add, i_sub, i_mul, i_ofNat, i_div, i_le, i_lt, i_eq, i_ix, i_inb, i_max, i_min, e_rem, j_lit, j_i, Int.reduceToNat, Int.reduceAdd, Int.reduceSub, Int.reduceMul, Int.reduceNeg, Int.reduceLT, Int.reduceLE, Int.reduceEq, gd_t, gd_T, ↓bd_m, ↓lh_t, ↓on_m, ↓ec_m, ↓reduceIte, if_true, if_false, true_and, and_true, false_and, and_false, true_or, or_true, false_or, or_false, Bool.false_eq_true, b2i_0, b2i_1, bl_0, bl_1, bl_b2, not_true_eq_false, not_false_eq_true, F_X0_turn, F_X1_turn, F_X1_mustTurn, B_X0_turn_19, F_X8_turn, F_X8_turnFault, B_X8_turnFault_48, B_X8_turn_13, cs.k, e1, ts0.k, e2, hK_wI, hI5, Nat.reduceEqDiff]
    exact Ok2.some (r.bad1 _ (by decide))
  · have e2 := e2 hT r.tn
    simp (disch := omega) only [i_lit, i_neg, i_add, i_sub, i_mul, i_ofNat, i_div, i_le, i_lt, i_eq, i_ix, i_inb, i_max, i_min, e_rem, j_lit, j_i, Int.reduceToNat, Int.reduceAdd, Int.reduceSub, Int.reduceMul, Int.reduceNeg, Int.reduceLT, Int.reduceLE, Int.reduceEq, gd_t, gd_T, ↓bd_m, ↓lh_t, ↓on_m, ↓ec_m, ↓reduceIte, if_true, if_false, true_and, and_true, false_and, and_false, true_or, or_true, false_or, or_false, Bool.false_eq_true, b2i_0, b2i_1, bl_0, bl_1, bl_b2, not_true_eq_false, not_false_eq_true, F_X0_turn, F_X1_turn, F_X1_mustTurn, B_X0_turn_23, F_X8_turn, F_X8_turnFault, B_X8_turnFault_48, B_X8_turn_13, cs.k, e1, ts0.k, e2, hK_wI, hI5, Nat.reduceEqDiff]
    exact Ok2.some (r.bad1 _ (by decide))
theorem RL.finJ {o : Nat → Nat} {hC hT : AH} {z m x : Nat} {τ : Nat → Int} {υ : Nat → Int64} {e : Nat → Nat} {el : Nat → Nat → Nat} {lw : Nat} (r : RL o hC hT z m x τ υ e el lw) (g : rm z hC) {hC' hT' : AH} {P P2 : Nat → Prop} (T1 : tf P hC hC') (hP : ∀ a, P a → scr z a) (T2 : tf P2 (wI hT m 5 (iI 0)) hT') (hP2 : ∀ a, P2 a → m + 7 ≤ a ∧ a ≤ m + 17) (v : Int64) : VJ z m (iI 0, wJ hC' (z + 495) 0 v) (v, hT') ∧ FC z hC (wJ hC' (z + 495) 0 v) ∧ FT m hT hT' ∧ Rx (wJ hC' (z + 495) 0 v) hT' z m := by
  have h1 := r.finT g T1 hP T2 hP2 0 _ rfl
  refine ⟨⟨?_, fun _ => ?_⟩, FC.tf T1 hP _ _, h1.2.2.1, ⟨o, x, τ, υ, e, el, lw, (((r.scC g.2.2.2.2 (cS.tf T1 hP)).out (g.tf T1) 0 v).thr 5 (by omega) (iI 0)).scT (tS.tf (r.tn.wm 5 (iI 0)).s T2 hP2)⟩⟩
  · show _ = hI hT' m 5
    rw [T2.I (fun q => by have := hP2 m q; omega), hI_wI, if_pos ⟨rfl, rfl⟩]
  · rw [hJ_wJ, if_pos ⟨rfl, rfl⟩]
theorem RL.badJ {o : Nat → Nat} {hC hT : AH} {z m x : Nat} {τ : Nat → Int} {υ : Nat → Int64} {e : Nat → Nat} {el : Nat → Nat → Nat} {lw : Nat} (r : RL o hC hT z m x τ υ e el lw) (k : Int32) (hk : k ≠ 0) : VJ z m (k, nw hC 0 0 6) (jI 0, wI hT m 5 k) ∧ FC z hC (nw hC 0 0 6) ∧ FT m hT (wI hT m 5 k) ∧ Rx (nw hC 0 0 6) (wI hT m 5 k) z m :=
  ⟨⟨by show k = _; rw [hI_wI, if_pos ⟨rfl, rfl⟩], fun w => absurd w hk⟩, FC.nw0 r, FT.thr _ _ _ _, ⟨o, x, τ, υ, e, el, lw, (r.nw0 0 6).thr 5 (by omega) _⟩⟩
theorem op_gains {z m : Nat} (x1 x2 x3 x4 x5 : Int32) : ∀ hC hT, Rx hC hT z m → rm z hC → Ok2 (F_X0_gains hC z x1 x2 x3 x4 x5 (z + 495)) (F_X8_gains hT m x1 x2 x3 x4 x5) (fun a b => VJ z m a b ∧ FC z hC a.2 ∧ FT m hT b.2 ∧ Rx a.2 b.2 z m) := by
  intro hC hT ⟨o, x, τ, υ, e, el, lw, r⟩ g
  have hn4 := r.c.rg.n
  have cs := r.cs
  have c := r.c
  have hz := r.hz
  have ts0 := r.tn.s
  have tn := r.tn.wm 5 (iI 0)
  have ti := tn.i
  have ts := tn.s
  have hgi := c.rg.i
  have gr : 1 ≤ hc hC ∧ 6 ≤ hs hC := by have := g.1; have := g.2.1; omega
  obtain ⟨ia, rfl, h1⟩ := i_ex x1
  obtain ⟨ib, rfl, h2⟩ := i_ex x2
  obtain ⟨j, rfl, h3⟩ := i_ex x3
  obtain ⟨h, rfl, h4⟩ := i_ex x4
  have l0 := isLevel_eq r.tn c.rg h3
  have hw := within_eq hT (a := h) (b := 1) (c := 40) (by omega) (by omega) (by omega)
  have hi := isIn_eq hC (a := h) (b := 1) (c := 40) (by omega) (by omega) (by omega)
  rcases two_cases r gr h1 h2 with ⟨a, b, rfl, rfl, ha, hb, hab, e1, e2⟩ | ⟨e1, e2⟩ | ⟨e1, e2⟩
  · have e2 := e2 hT r.tn
    by_cases q1 : 1 ≤ h ∧ h ≤ 40
    · rw [b2_t q1] at hw hi
      by_cases q2 : 0 ≤ j ∧ j ≤ τ 3 - 1
      · rw [b2_t q2] at l0
        have m2 := mustBeLevel_t r q2
        obtain ⟨h, rfl⟩ := Int.eq_ofNat_of_zero_le (show 0 ≤ h by omega)
        obtain ⟨j, rfl⟩ := Int.eq_ofNat_of_zero_le q2.1
        obtain ⟨hC1, hC', hT', A, B, w1, w1k, w2, w3, T1, T2, GC, GT, RR, ko, lo⟩ := turn_laid r g ha hb hab (by omega) (h := h) (by omega)
        have hl8 := GT.2.1
        have cs' := GC.1
        have ts' := GT.1.s
        have R0 := RR.1 0 j (by omega) (by omega) (by omega)
        unfold TRw pA pB at R0
        rw [if_pos (by omega), if_pos (by omega), show 8 * 0 + j = j by omega] at R0
        have wM := cs'.w336 0 (by omega)
        have wH := cs'.w378 0 (by omega)
        by_cases q5 : x5 = iI 0
        · subst q5
          simp (disch := omega) only [i_lit, i_neg, i_add, i_sub, i_mul, i_ofNat, i_div, i_le, i_lt, i_eq, i_ix, i_inb, i_max, i_min, e_rem, j_lit, j_i, Int.reduceToNat, Int.reduceAdd, Int.reduceSub, Int.reduceMul, Int.reduceNeg, Int.reduceLT, Int.reduceLE, Int.reduceEq, gd_t, gd_T, ↓bd_m, ↓lh_t, ↓on_m, ↓ec_m, ↓reduceIte, if_true, if_false, true_and, and_true, false_and, and_false, true_or, or_true, false_or, or_false, Bool.false_eq_true, b2i_0, b2i_1, bl_0, bl_1, bl_b2, not_true_eq_false, not_false_eq_true, F_X0_gains, F_X1_gains, B_X1_gains_33, F_X1_mustTurn, F_X8_gains, B_X8_gains_50, F_X8_turnFault, B_X8_turnFault_48, B_X8_gains_13, cs.k, e1, hi, right_t, m2, w1, w1k, w2, cs'.k, cs'.r336, cs'.k336, cs'.l336, wM.1, wM.2.1, wM.2.2, R0.1, ko, lo, ts0.k, e2, hw, l0, hK_wI, hI5, w3, ts'.k, ts'.r1, ts'.k1, ts'.l1, ts'.r2, ts'.k2, ts'.l2, ts'.r3, ts'.k3, ts'.l3, ts'.r4, ts'.k4, ts'.l4, ts'.r5, ts'.k5, ts'.l5, ts'.r6, ts'.k6, ts'.l6, ts'.r7, ts'.k7, ts'.l7, ts'.r8, ts'.k8, ts'.l8, ts'.r9, ts'.k9, ts'.l9, ts'.r10, ts'.k10, ts'.l10, ts'.r11, ts'.k11, ts'.l11, ts'.r12, ts'.k12, ts'.l12, ts'.r13, ts'.k13, ts'.l13, ts'.r14, ts'.k14, ts'.l14, ts'.r15, ts'.k15, ts'.l15, ts'.r16, ts'.k16, ts'.l16, ts'.r17, ts'.k17, ts'.l17, ts'.r18, ts'.k18, ts'.l18, ts'.r19, ts'.k19, ts'.l19, ts'.r20, ts'.k20, ts'.l20, Int.toNat_natCast]
          exact Ok2.some (r.finJ g T1 GSP_scr T2 TQP_rng _)
        · have qF : (x5 = iI 0) = False := eq_false q5
          simp (disch := omega) only [i_lit, i_neg, i_add, i_sub, i_mul, i_ofNat, i_div, i_le, i_lt, i_eq, i_ix, i_inb, i_max, i_min, e_rem, j_lit, j_i, Int.reduceToNat, Int.reduceAdd, Int.reduceSub, Int.reduceMul, Int.reduceNeg, Int.reduceLT, Int.reduceLE, Int.reduceEq, gd_t, gd_T, ↓bd_m, ↓lh_t, ↓on_m, ↓ec_m, ↓reduceIte, if_true, if_false, true_and, and_true, false_and, and_false, true_or, or_true, false_or, or_false, Bool.false_eq_true, b2i_0, b2i_1, bl_0, bl_1, bl_b2, not_true_eq_false, not_false_eq_true, F_X0_gains, F_X1_gains, B_X1_gains_33, F_X1_mustTurn, F_X8_gains, B_X8_gains_50, F_X8_turnFault, B_X8_turnFault_48, B_X8_gains_13, cs.k, e1, hi, right_t, m2, w1, w1k, w2, cs'.k, cs'.r378, cs'.k378, cs'.l378, wH.1, wH.2.1, wH.2.2, R0.2, ko, lo, ts0.k, e2, hw, l0, hK_wI, hI5, w3, ts'.k, ts'.r1, ts'.k1, ts'.l1, ts'.r2, ts'.k2, ts'.l2, ts'.r3, ts'.k3, ts'.l3, ts'.r4, ts'.k4, ts'.l4, ts'.r5, ts'.k5, ts'.l5, ts'.r6, ts'.k6, ts'.l6, ts'.r7, ts'.k7, ts'.l7, ts'.r8, ts'.k8, ts'.l8, ts'.r9, ts'.k9, ts'.l9, ts'.r10, ts'.k10, ts'.l10, ts'.r11, ts'.k11, ts'.l11, ts'.r12, ts'.k12, ts'.l12, ts'.r13, ts'.k13, ts'.l13, ts'.r14, ts'.k14, ts'.l14, ts'.r15, ts'.k15, ts'.l15, ts'.r16, ts'.k16, ts'.l16, ts'.r17, ts'.k17, ts'.l17, ts'.r18, ts'.k18, ts'.l18, ts'.r19, ts'.k19, ts'.l19, ts'.r20, ts'.k20, ts'.l20, qF, Int.toNat_natCast]
          exact Ok2.some (r.finJ g T1 GSP_scr T2 TQP_rng _)
      · rw [b2_f q2] at l0
        have m2 := mustBeLevel_f r gr h3 q2
        simp (disch := omega) only [i_lit, i_neg, i_add, i_sub, i_mul, i_ofNat, i_div, i_le, i_lt, i_eq, i_ix, i_inb, i_max, i_min, e_rem, j_lit, j_i, Int.reduceToNat, Int.reduceAdd, Int.reduceSub, Int.reduceMul, Int.reduceNeg, Int.reduceLT, Int.reduceLE, Int.reduceEq, gd_t, gd_T, ↓bd_m, ↓lh_t, ↓on_m, ↓ec_m, ↓reduceIte, if_true, if_false, true_and, and_true, false_and, and_false, true_or, or_true, false_or, or_false, Bool.false_eq_true, b2i_0, b2i_1, bl_0, bl_1, bl_b2, not_true_eq_false, not_false_eq_true, F_X0_gains, F_X1_gains, F_X1_mustTurn, B_X0_gains_26, F_X8_gains, F_X8_turnFault, B_X8_turnFault_48, B_X8_gains_13, cs.k, e1, hi, right_t, m2, ts0.k, e2, hw, l0, hK_wI, hI5, Nat.reduceEqDiff]
        exact Ok2.some (r.badJ _ (by decide))
    · rw [b2_f q1] at hw hi
      simp (disch := omega) only [i_lit, i_neg, i_add, i_sub, i_mul, i_ofNat, i_div, i_le, i_lt, i_eq, i_ix, i_inb, i_max, i_min, e_rem, j_lit, j_i, Int.reduceToNat, Int.reduceAdd, Int.reduceSub, Int.reduceMul, Int.reduceNeg, Int.reduceLT, Int.reduceLE, Int.reduceEq, gd_t, gd_T, ↓bd_m, ↓lh_t, ↓on_m, ↓ec_m, ↓reduceIte, if_true, if_false, true_and, and_true, false_and, and_false, true_or, or_true, false_or, or_false, Bool.false_eq_true, b2i_0, b2i_1, bl_0, bl_1, bl_b2, not_true_eq_false, not_false_eq_true, F_X0_gains, F_X1_gains, F_X1_mustTurn, B_X0_gains_22, F_X8_gains, F_X8_turnFault, B_X8_turnFault_48, B_X8_gains_13, cs.k, e1, hi, right_f gr, ts0.k, e2, hw, hK_wI, hI5, Nat.reduceEqDiff]
      exact Ok2.some (r.badJ _ (by decide))
  · have e2 := e2 hT r.tn
    simp (disch := omega) only [i_lit, i_neg, i_add, i_sub, i_mul, i_ofNat, i_div, i_le, i_lt, i_eq, i_ix, i_inb, i_max, i_min, e_rem, j_lit, j_i, Int.reduceToNat, Int.reduceAdd, Int.reduceSub, Int.reduceMul, Int.reduceNeg, Int.reduceLT, Int.reduceLE, Int.reduceEq, gd_t, gd_T, ↓bd_m, ↓lh_t, ↓on_m, ↓ec_m, ↓reduceIte, if_true, if_false, true_and, and_true, false_and, and_false, true_or, or_true, false_or, or_false, Bool.false_eq_true, b2i_0, b2i_1, bl_0, bl_1, bl_b2, not_true_eq_false, not_false_eq_true, F_X0_gains, F_X1_gains, F_X1_mustTurn, B_X0_gains_18, F_X8_gains, F_X8_turnFault, B_X8_turnFault_48, B_X8_gains_13, cs.k, e1, ts0.k, e2, hK_wI, hI5, Nat.reduceEqDiff]
    exact Ok2.some (r.badJ _ (by decide))
  · have e2 := e2 hT r.tn
    simp (disch := omega) only [i_lit, i_neg, i_add, i_sub, i_mul, i_ofNat, i_div, i_le, i_lt, i_eq, i_ix, i_inb, i_max, i_min, e_rem, j_lit, j_i, Int.reduceToNat, Int.reduceAdd, Int.reduceSub, Int.reduceMul, Int.reduceNeg, Int.reduceLT, Int.reduceLE, Int.reduceEq, gd_t, gd_T, ↓bd_m, ↓lh_t, ↓on_m, ↓ec_m, ↓reduceIte, if_true, if_false, true_and, and_true, false_and, and_false, true_or, or_true, false_or, or_false, Bool.false_eq_true, b2i_0, b2i_1, bl_0, bl_1, bl_b2, not_true_eq_false, not_false_eq_true, F_X0_gains, F_X1_gains, F_X1_mustTurn, B_X0_gains_22, F_X8_gains, F_X8_turnFault, B_X8_turnFault_48, B_X8_gains_13, cs.k, e1, ts0.k, e2, hK_wI, hI5, Nat.reduceEqDiff]
    exact Ok2.some (r.badJ _ (by decide))
