/-! PURE GC: gain, reply, even, joint -/
set_option maxRecDepth 100000
/-- the component's tables -/
def GTC (g : AH) (z x : Nat) (n : Int) (A B : Nat → Nat → Int) : Prop := CS g z ∧ hR g z 0 = some x ∧ hK g x = 2 ∧ hI g x 10 = iI n ∧ (0 ≤ n ∧ n ≤ 8) ∧ ∀ i j : Nat, (i : Int) < n → (j : Int) < n → hI g (z + 277 + i) j = iI (A i j) ∧ hI g (z + 286 + i) j = iI (B i j)
/-- the reference's -/
def GTT (g : AH) (m : Nat) (τ : Nat → Int) (A B : Nat → Nat → Int) : Prop := TN g m τ ∧ (0 ≤ τ 3 ∧ τ 3 ≤ 8) ∧ ∀ i j : Nat, (i : Int) < τ 3 → (j : Int) < τ 3 → hI g (m + 12) (8 * i + j) = iI (A i j) ∧ hI g (m + 12) (64 + 8 * i + j) = iI (B i j)
/-- small enough -/
def bdd (n : Int) (A : Nat → Nat → Int) : Prop := ∀ i j : Nat, (i : Int) < n → (j : Int) < n → -60000 ≤ A i j ∧ A i j ≤ 60000
theorem game_laid {o : Nat → Nat} {hC hT : AH} {z m x : Nat} {τ : Nat → Int} {υ : Nat → Int64} {e : Nat → Nat} {el : Nat → Nat → Nat} {lw : Nat} (r : RL o hC hT z m x τ υ e el lw) (g : rm z hC) {a b : Nat} (ha : (a : Int) < τ 0) (hb : (b : Int) < τ 0) (hab : a ≠ b) : ∃ hC' hT' A B, F_X1_laysGame hC z (iI a) (iI b) = some hC' ∧ F_X8_layGains (wI hT m 5 (iI 0)) m (iI a) (iI b) = some hT' ∧ tf (GP z) hC hC' ∧ tf (TP m) (wI hT m 5 (iI 0)) hT' ∧ GTC hC' z x (τ 3) A B ∧ GTT hT' m τ A B ∧ bdd (τ 3) A ∧ bdd (τ 3) B ∧ hK hC' (z + 495) = 102 ∧ hL hC' (z + 495) = 1 := by
  have rg := r.c.rg
  have gm := g.2.2.2.2
  have tn := r.tn.wm 5 (iI 0)
  obtain ⟨hC', u1, T1, c3⟩ := lays_eq r gm ha hb hab
  obtain ⟨hT', t1, T2, t3⟩ := layG_eq tn rg ha hb hab
  have r1 := r.scC gm (cS.tf T1 (fun a q => q.scr))
  have c1 := r1.c
  have cs1 := r1.cs
  have hz1 := r1.hz
  have n1 : ¬ TP m (m + 1) := by unfold TP; omega
  have g2 := g.tf T1
  have hd := rg.d
  have bd : ∀ s : Nat, (s : Int) < τ 0 → bdd (τ 3) (fun i j => gnS τ (prS τ a b i j) s) := fun s hs i j hi hj => by
    have := gn_rng rg (prS_rng rg (a := a) (b := b) hi hj) hs (τ 1).toNat (by omega)
    show -60000 ≤ itr _ _ 0 0 ∧ itr _ _ 0 0 ≤ 60000
    omega
  exact ⟨hC', hT', fun i j => gnS τ (prS τ a b i j) a, fun i j => gnS τ (prS τ a b i j) b, u1, t1, T1, T2, ⟨cs1, hz1, c1.k, c1.i10, rg.l, c3⟩, ⟨tn.tf T2 n1, rg.l, t3⟩, bd a ha, bd b hb, g2.2.2.1, g2.2.2.2.1⟩
theorem gain0 {g : AH} {m : Nat} {τ : Nat → Int} {A B : Nat → Nat → Int} (G : GTT g m τ A B) {i j : Nat} (hi : (i : Int) < τ 3) (hj : (j : Int) < τ 3) : F_X8_gainOf g m (iI i) (iI j) (iI 0) = some (iI (A i j)) := by
  have ts := G.1.s
  have := G.2.1
  have e1 := (G.2.2 i j hi hj).1
  have x3 : (0 + 8 * (i : Int) + (j : Int)).toNat = 8 * i + j := by omega
  unfold F_X8_gainOf
  simp (disch := omega) only [i_lit, i_neg, i_add, i_sub, i_mul, i_ofNat, i_div, i_le, i_lt, i_eq, i_ix, i_inb, i_max, i_min, e_rem, j_lit, j_i, Int.reduceToNat, Int.reduceAdd, Int.reduceSub, Int.reduceMul, Int.reduceNeg, Int.reduceLT, Int.reduceLE, Int.reduceEq, gd_t, gd_T, ↓bd_m, ↓lh_t, ↓on_m, ↓ec_m, ↓reduceIte, if_true, if_false, true_and, and_true, false_and, and_false, true_or, or_true, false_or, or_false, Bool.false_eq_true, b2i_0, b2i_1, bl_0, bl_1, bl_b2, not_true_eq_false, not_false_eq_true, B_X8_gainOf_14, ts.k, ts.r1, ts.k1, ts.l1, ts.r2, ts.k2, ts.l2, ts.r3, ts.k3, ts.l3, ts.r4, ts.k4, ts.l4, ts.r5, ts.k5, ts.l5, ts.r6, ts.k6, ts.l6, ts.r7, ts.k7, ts.l7, ts.r8, ts.k8, ts.l8, ts.r9, ts.k9, ts.l9, ts.r10, ts.k10, ts.l10, ts.r11, ts.k11, ts.l11, ts.r12, ts.k12, ts.l12, ts.r13, ts.k13, ts.l13, ts.r14, ts.k14, ts.l14, ts.r15, ts.k15, ts.l15, ts.r16, ts.k16, ts.l16, ts.r17, ts.k17, ts.l17, ts.r18, ts.k18, ts.l18, ts.r19, ts.k19, ts.l19, ts.r20, ts.k20, ts.l20, x3, e1]
theorem gain1 {g : AH} {m : Nat} {τ : Nat → Int} {A B : Nat → Nat → Int} (G : GTT g m τ A B) {i j : Nat} (hi : (i : Int) < τ 3) (hj : (j : Int) < τ 3) {v : Int32} (hv : v ≠ iI 0) : F_X8_gainOf g m (iI i) (iI j) v = some (iI (B i j)) := by
  have ts := G.1.s
  have := G.2.1
  have e1 := (G.2.2 i j hi hj).2
  have x3 : (64 + 8 * (i : Int) + (j : Int)).toNat = 64 + 8 * i + j := by omega
  have hvF : (v = iI 0) = False := eq_false hv
  unfold F_X8_gainOf
  simp (disch := omega) only [i_lit, i_neg, i_add, i_sub, i_mul, i_ofNat, i_div, i_le, i_lt, i_eq, i_ix, i_inb, i_max, i_min, e_rem, j_lit, j_i, Int.reduceToNat, Int.reduceAdd, Int.reduceSub, Int.reduceMul, Int.reduceNeg, Int.reduceLT, Int.reduceLE, Int.reduceEq, gd_t, gd_T, ↓bd_m, ↓lh_t, ↓on_m, ↓ec_m, ↓reduceIte, if_true, if_false, true_and, and_true, false_and, and_false, true_or, or_true, false_or, or_false, Bool.false_eq_true, b2i_0, b2i_1, bl_0, bl_1, bl_b2, not_true_eq_false, not_false_eq_true, B_X8_gainOf_14, ts.k, ts.r1, ts.k1, ts.l1, ts.r2, ts.k2, ts.l2, ts.r3, ts.k3, ts.l3, ts.r4, ts.k4, ts.l4, ts.r5, ts.k5, ts.l5, ts.r6, ts.k6, ts.l6, ts.r7, ts.k7, ts.l7, ts.r8, ts.k8, ts.l8, ts.r9, ts.k9, ts.l9, ts.r10, ts.k10, ts.l10, ts.r11, ts.k11, ts.l11, ts.r12, ts.k12, ts.l12, ts.r13, ts.k13, ts.l13, ts.r14, ts.k14, ts.l14, ts.r15, ts.k15, ts.l15, ts.r16, ts.k16, ts.l16, ts.r17, ts.k17, ts.l17, ts.r18, ts.k18, ts.l18, ts.r19, ts.k19, ts.l19, ts.r20, ts.k20, ts.l20, x3, e1, hvF]
theorem hI5 (h : AH) (m : Nat) (v : Int32) : hI (wI h m 5 v) m 5 = v := by rw [hI_wI, if_pos ⟨rfl, rfl⟩]
theorem GP_scr {z : Nat} : ∀ a, GP z a → scr z a := fun _ q => q.scr
theorem TP_rng {m : Nat} : ∀ a, TP m a → m + 7 ≤ a ∧ a ≤ m + 17 := fun a q => by unfold TP at q; omega
theorem op_gain {z m : Nat} (x1 x2 x3 x4 x5 : Int32) : ∀ hC hT, Rx hC hT z m → rm z hC → Ok2 (F_X0_gain hC z x1 x2 x3 x4 x5 (z + 495)) (F_X8_gain hT m x1 x2 x3 x4 x5) (fun a b => VI z m a b ∧ FC z hC a.2 ∧ FT m hT b.2 ∧ Rx a.2 b.2 z m) := by
  intro hC hT ⟨o, x, τ, υ, e, el, lw, r⟩ g
  have hn4 := r.c.rg.n
  have cs := r.cs
  have c := r.c
  have hz := r.hz
  have ts0 := r.tn.s
  have tn := r.tn.wm 5 (iI 0)
  have ti := tn.i
  have ts := tn.s
  have hgi := c.rg.i
  have gr : 1 ≤ hc hC ∧ 6 ≤ hs hC := by have := g.1; have := g.2.1; omega
  obtain ⟨ia, rfl, h1⟩ := i_ex x1
  obtain ⟨ib, rfl, h2⟩ := i_ex x2
  obtain ⟨i, rfl, h3⟩ := i_ex x3
  obtain ⟨j, rfl, h4⟩ := i_ex x4
  have l1 := isLevel_eq tn c.rg h3
  have l2 := isLevel_eq tn c.rg h4
  rcases two_cases r gr h1 h2 with ⟨a, b, rfl, rfl, ha, hb, hab, e1, e2⟩ | ⟨e1, e2⟩ | ⟨e1, e2⟩
  · have e2 := e2 hT r.tn
    by_cases q1 : 0 ≤ i ∧ i ≤ τ 3 - 1
    · rw [b2_t q1] at l1
      have m1 := mustBeLevel_t r q1
      by_cases q2 : 0 ≤ j ∧ j ≤ τ 3 - 1
      · rw [b2_t q2] at l2
        have m2 := mustBeLevel_t r q2
        obtain ⟨hC', hT', A, B, w1, w2, T1, T2, GC, GT, bA, bB, ko, lo⟩ := game_laid r g ha hb hab
        obtain ⟨i, rfl⟩ := Int.eq_ofNat_of_zero_le q1.1
        obtain ⟨j, rfl⟩ := Int.eq_ofNat_of_zero_le q2.1
        have hi : (i : Int) < τ 3 := by omega
        have hj : (j : Int) < τ 3 := by omega
        have ts' := GT.1.s
        have hl8 := GT.2.1
        obtain ⟨cs', hz', kx', -, -, tb⟩ := GC
        have wA := cs'.w276 i (by omega)
        have wB := cs'.w285 i (by omega)
        have ⟨v1, v2⟩ := tb i j hi hj
        have ⟨b1, b2⟩ := bA i j hi hj
        have ⟨b3, b4⟩ := bB i j hi hj
        by_cases q5 : x5 = iI 0
        · subst q5
          simp (disch := omega) only [i_lit, i_neg, i_add, i_sub, i_mul, i_ofNat, i_div, i_le, i_lt, i_eq, i_ix, i_inb, i_max, i_min, e_rem, j_lit, j_i, Int.reduceToNat, Int.reduceAdd, Int.reduceSub, Int.reduceMul, Int.reduceNeg, Int.reduceLT, Int.reduceLE, Int.reduceEq, gd_t, gd_T, ↓bd_m, ↓lh_t, ↓on_m, ↓ec_m, ↓reduceIte, if_true, if_false, true_and, and_true, false_and, and_false, true_or, or_true, false_or, or_false, Bool.false_eq_true, b2i_0, b2i_1, bl_0, bl_1, bl_b2, not_true_eq_false, not_false_eq_true, F_X0_gain, F_X1_gain, B_X1_gain_49, F_X8_gain, B_X8_gain_10, cs.k, e1, m1, m2, w1, cs'.k, cs'.r276, cs'.k276, cs'.l276, wA.1, wA.2.1, wA.2.2, v1, ko, lo, ts0.k, e2, hK_wI, hI5, l1, l2, w2, ts'.k, gain0 GT hi hj, Int.toNat_natCast]
          exact Ok2.some (r.finT g T1 GP_scr T2 TP_rng _ _ (j_i (by omega)).symm)
        · have qF : (x5 = iI 0) = False := eq_false q5
          simp (disch := omega) only [i_lit, i_neg, i_add, i_sub, i_mul, i_ofNat, i_div, i_le, i_lt, i_eq, i_ix, i_inb, i_max, i_min, e_rem, j_lit, j_i, Int.reduceToNat, Int.reduceAdd, Int.reduceSub, Int.reduceMul, Int.reduceNeg, Int.reduceLT, Int.reduceLE, Int.reduceEq, gd_t, gd_T, ↓bd_m, ↓lh_t, ↓on_m, ↓ec_m, ↓reduceIte, if_true, if_false, true_and, and_true, false_and, and_false, true_or, or_true, false_or, or_false, Bool.false_eq_true, b2i_0, b2i_1, bl_0, bl_1, bl_b2, not_true_eq_false, not_false_eq_true, F_X0_gain, F_X1_gain, B_X1_gain_49, F_X8_gain, B_X8_gain_10, cs.k, e1, m1, m2, w1, cs'.k, cs'.r285, cs'.k285, cs'.l285, wB.1, wB.2.1, wB.2.2, v2, ko, lo, ts0.k, e2, hK_wI, hI5, l1, l2, w2, ts'.k, gain1 GT hi hj q5, qF, Int.toNat_natCast]
          exact Ok2.some (r.finT g T1 GP_scr T2 TP_rng _ _ (j_i (by omega)).symm)
      · rw [b2_f q2] at l2
        have m2 := mustBeLevel_f r gr h4 q2
        simp (disch := omega) only [i_lit, i_neg, i_add, i_sub, i_mul, i_ofNat, i_div, i_le, i_lt, i_eq, i_ix, i_inb, i_max, i_min, e_rem, j_lit, j_i, Int.reduceToNat, Int.reduceAdd, Int.reduceSub, Int.reduceMul, Int.reduceNeg, Int.reduceLT, Int.reduceLE, Int.reduceEq, gd_t, gd_T, ↓bd_m, ↓lh_t, ↓on_m, ↓ec_m, ↓reduceIte, if_true, if_false, true_and, and_true, false_and, and_false, true_or, or_true, false_or, or_false, Bool.false_eq_true, b2i_0, b2i_1, bl_0, bl_1, bl_b2, not_true_eq_false, not_false_eq_true, F_X0_gain, F_X1_gain, B_X0_gain_27, F_X8_gain, B_X8_gain_10, B_X8_gain_36, cs.k, e1, m1, m2, ts0.k, e2, hK_wI, hI5, l1, l2, fails_eq ts.k, Nat.reduceEqDiff]
        exact Ok2.some (r.bad _ (by decide))
    · rw [b2_f q1] at l1
      have m1 := mustBeLevel_f r gr h3 q1
      simp (disch := omega) only [i_lit, i_neg, i_add, i_sub, i_mul, i_ofNat, i_div, i_le, i_lt, i_eq, i_ix, i_inb, i_max, i_min, e_rem, j_lit, j_i, Int.reduceToNat, Int.reduceAdd, Int.reduceSub, Int.reduceMul, Int.reduceNeg, Int.reduceLT, Int.reduceLE, Int.reduceEq, gd_t, gd_T, ↓bd_m, ↓lh_t, ↓on_m, ↓ec_m, ↓reduceIte, if_true, if_false, true_and, and_true, false_and, and_false, true_or, or_true, false_or, or_false, Bool.false_eq_true, b2i_0, b2i_1, bl_0, bl_1, bl_b2, not_true_eq_false, not_false_eq_true, F_X0_gain, F_X1_gain, B_X0_gain_27, F_X8_gain, B_X8_gain_10, B_X8_gain_36, cs.k, e1, m1, ts0.k, e2, hK_wI, hI5, l1, fails_eq ts.k, Nat.reduceEqDiff]
      exact Ok2.some (r.bad _ (by decide))
  · have e2 := e2 hT r.tn
    simp (disch := omega) only [i_lit, i_neg, i_add, i_sub, i_mul, i_ofNat, i_div, i_le, i_lt, i_eq, i_ix, i_inb, i_max, i_min, e_rem, j_lit, j_i, Int.reduceToNat, Int.reduceAdd, Int.reduceSub, Int.reduceMul, Int.reduceNeg, Int.reduceLT, Int.reduceLE, Int.reduceEq, gd_t, gd_T, ↓bd_m, ↓lh_t, ↓on_m, ↓ec_m, ↓reduceIte, if_true, if_false, true_and, and_true, false_and, and_false, true_or, or_true, false_or, or_false, Bool.false_eq_true, b2i_0, b2i_1, bl_0, bl_1, bl_b2, not_true_eq_false, not_false_eq_true, F_X0_gain, F_X1_gain, B_X0_gain_19, F_X8_gain, B_X8_gain_10, cs.k, e1, ts0.k, e2, hK_wI, hI5, Nat.reduceEqDiff]
    exact Ok2.some (r.bad1 _ (by decide))
  · have e2 := e2 hT r.tn
    simp (disch := omega) only [i_lit, i_neg, i_add, i_sub, i_mul, i_ofNat, i_div, i_le, i_lt, i_eq, i_ix, i_inb, i_max, i_min, e_rem, j_lit, j_i, Int.reduceToNat, Int.reduceAdd, Int.reduceSub, Int.reduceMul, Int.reduceNeg, Int.reduceLT, Int.reduceLE, Int.reduceEq, gd_t, gd_T, ↓bd_m, ↓lh_t, ↓on_m, ↓ec_m, ↓reduceIte, if_true, if_false, true_and, and_true, false_and, and_false, true_or, or_true, false_or, or_false, Bool.false_eq_true, b2i_0, b2i_1, bl_0, bl_1, bl_b2, not_true_eq_false, not_false_eq_true, F_X0_gain, F_X1_gain, B_X0_gain_23, F_X8_gain, B_X8_gain_10, cs.k, e1, ts0.k, e2, hK_wI, hI5, Nat.reduceEqDiff]
    exact Ok2.some (r.bad1 _ (by decide))
