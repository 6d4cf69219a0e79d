/-! PURE HA: round, leads -/
set_option maxRecDepth 100000
theorem lp_sim {σ τ α β : Type} {b1 : (σ → Option α) → σ → Option α} {b2 : (τ → Option β) → τ → Option β} {R : α → β → Prop} (I : σ → τ → Nat → Prop) (hstep : ∀ (n1 n2 : Nat) (s : σ) (t : τ) (k : Nat), I s t k → k ≤ n1 → k ≤ n2 → (∀ s' t' k', k' < k → I s' t' k' → Ok2 (lp b1 n1 s') (lp b2 n2 t') R) → Ok2 (b1 (lp b1 n1) s) (b2 (lp b2 n2) t) R) : ∀ (n1 n2 k : Nat) (s : σ) (t : τ), I s t k → k < n1 → k < n2 → Ok2 (lp b1 n1 s) (lp b2 n2 t) R := by
  intro n1
  induction n1 with
  | zero => intro n2 k s t _ h; exact absurd h (Nat.not_lt_zero _)
  | succ n1 ih =>
    intro n2 k s t hI h1 h2
    cases n2 with
    | zero => exact absurd h2 (Nat.not_lt_zero _)
    | succ n2 => exact hstep n1 n2 s t k hI (by omega) (by omega) (fun s' t' k' h' hI' => ih n2 k' s' t' hI' (by omega) (by omega))
/-- the price on a board -/
def bo (τ : Nat → Int) (s y : Int) : Int := τ (1885 + 4 * (y % 256) + s).toNat
theorem bo_rng {τ : Nat → Int} (rg : RG τ) {s y : Int} (hs : 0 ≤ s ∧ s < 4) (hy : 0 ≤ y) : 0 ≤ bo τ s y ∧ bo τ s y ≤ 99 := by
  have := rg.brd (4 * (y % 256) + s).toNat (by omega)
  rw [show 1885 + (4 * (y % 256) + s).toNat = (1885 + 4 * (y % 256) + s).toNat by omega] at this
  exact this
theorem alike_run {o : Nat → Nat} {t : Nat} {h : AH} {x : Nat} {τ : Nat → Int} {υ : Nat → Int64} {e : Nat → Nat} {el : Nat → Nat → Nat} {lw : Nat} (c : CrP o t h x τ υ e el lw) {z : Nat} (cs : CS h z) (hz : hR h z 0 = some x) {hT : AH} {m : Nat} (t : TN hT m τ) {y w : Int} (hy : 0 ≤ y ∧ y ≤ 3000) (hw : 0 ≤ w ∧ w ≤ 3000) : ∃ b : Int32, (b = iI 0 ∨ b = iI 1) ∧ F_X1_areAlike h z (iI y) (iI w) = some b ∧ F_X8_isAlike hT m (iI y) (iI w) = some b := by
  have hn4 := c.rg.n
  have ts := t.s
  have ti := t.i
  have key : Ok2 (F_X1_areAlike h z (iI y) (iI w)) (F_X8_isAlike hT m (iI y) (iI w)) (fun a b => b = a ∧ (a = iI 0 ∨ a = iI 1)) := by
    unfold F_X1_areAlike G_X1_areAlike_2 F_X8_isAlike G_X8_isAlike_2
    refine lp_ok2 (fun s u k => ∃ i : Nat, s = (z, iI y, iI w, iI i) ∧ u = (m, iI y, iI w, iI i) ∧ (i : Int) ≤ τ 0 ∧ k = (τ 0 - i).toNat) ?_ fuel (τ 0).toNat _ _ ⟨0, rfl, rfl, by omega, by omega⟩ (lt_fuel (by omega))
    rintro f1 f2 s u k ⟨i, rfl, rfl, h1, rfl⟩ ih
    unfold L_X1_areAlike_2 L_X8_isAlike_2
    by_cases ho : τ 0 ≤ (i : Int)
    · simp (disch := omega) only [i_lit, i_neg, i_add, i_sub, i_mul, i_ofNat, i_div, i_le, i_lt, i_eq, i_ix, i_inb, i_max, i_min, e_rem, j_lit, j_i, Int.reduceToNat, Int.reduceAdd, Int.reduceSub, Int.reduceMul, Int.reduceNeg, Int.reduceLT, Int.reduceLE, Int.reduceEq, gd_t, gd_T, ↓bd_m, ↓lh_t, ↓on_m, ↓ec_m, ↓reduceIte, if_true, if_false, true_and, and_true, false_and, and_false, true_or, or_true, false_or, or_false, Bool.false_eq_true, b2i_0, b2i_1, bl_0, bl_1, bl_b2, not_true_eq_false, not_false_eq_true, B_X1_areAlike_2, B_X1_areAlike_42, B_X8_isAlike_2, B_X8_isAlike_35, cs.k, hz, c.k, many_eq c, ts.k, ts.r1, ts.k1, ts.l1, ts.r2, ts.k2, ts.l2, ts.r3, ts.k3, ts.l3, ts.r4, ts.k4, ts.l4, ts.r5, ts.k5, ts.l5, ts.r6, ts.k6, ts.l6, ts.r7, ts.k7, ts.l7, ts.r8, ts.k8, ts.l8, ts.r9, ts.k9, ts.l9, ts.r10, ts.k10, ts.l10, ts.r11, ts.k11, ts.l11, ts.r12, ts.k12, ts.l12, ts.r13, ts.k13, ts.l13, ts.r14, ts.k14, ts.l14, ts.r15, ts.k15, ts.l15, ts.r16, ts.k16, ts.l16, ts.r17, ts.k17, ts.l17, ts.r18, ts.k18, ts.l18, ts.r19, ts.k19, ts.l19, ts.r20, ts.k20, ts.l20, ti, ho]
      exact Ok2.some ⟨rfl, Or.inr rfl⟩
    · have a1 := at_eq c (s := (i : Int)) (y := y) (by omega) hy
      have a2 := at_eq c (s := (i : Int)) (y := w) (by omega) hw
      have a3 := boardOf_eq t (s := (i : Int)) (y := y) (by omega) hy
      have a4 := boardOf_eq t (s := (i : Int)) (y := w) (by omega) hw
      have g1 := bo_rng c.rg (s := (i : Int)) (y := y) (by omega) hy.1
      have g2 := bo_rng c.rg (s := (i : Int)) (y := w) (by omega) hw.1
      unfold bo at g1 g2
      have nx := ih (z, iI y, iI w, iI ((i + 1 : Nat) : Int)) (m, iI y, iI w, iI ((i + 1 : Nat) : Int)) (τ 0 - ((i + 1 : Nat) : Int)).toNat (by omega) ⟨i + 1, rfl, rfl, by omega, rfl⟩
      rw [show (((i + 1 : Nat)) : Int) = (i : Int) + 1 by omega] at nx
      by_cases q : τ (1885 + 4 * (y % 256) + (i : Int)).toNat = τ (1885 + 4 * (w % 256) + (i : Int)).toNat
      · simp (disch := omega) only [i_lit, i_neg, i_add, i_sub, i_mul, i_ofNat, i_div, i_le, i_lt, i_eq, i_ix, i_inb, i_max, i_min, e_rem, j_lit, j_i, Int.reduceToNat, Int.reduceAdd, Int.reduceSub, Int.reduceMul, Int.reduceNeg, Int.reduceLT, Int.reduceLE, Int.reduceEq, gd_t, gd_T, ↓bd_m, ↓lh_t, ↓on_m, ↓ec_m, ↓reduceIte, if_true, if_false, true_and, and_true, false_and, and_false, true_or, or_true, false_or, or_false, Bool.false_eq_true, b2i_0, b2i_1, bl_0, bl_1, bl_b2, not_true_eq_false, not_false_eq_true, B_X1_areAlike_2, B_X8_isAlike_2, cs.k, hz, c.k, many_eq c, a1, a2, ts.k, ts.r1, ts.k1, ts.l1, ts.r2, ts.k2, ts.l2, ts.r3, ts.k3, ts.l3, ts.r4, ts.k4, ts.l4, ts.r5, ts.k5, ts.l5, ts.r6, ts.k6, ts.l6, ts.r7, ts.k7, ts.l7, ts.r8, ts.k8, ts.l8, ts.r9, ts.k9, ts.l9, ts.r10, ts.k10, ts.l10, ts.r11, ts.k11, ts.l11, ts.r12, ts.k12, ts.l12, ts.r13, ts.k13, ts.l13, ts.r14, ts.k14, ts.l14, ts.r15, ts.k15, ts.l15, ts.r16, ts.k16, ts.l16, ts.r17, ts.k17, ts.l17, ts.r18, ts.k18, ts.l18, ts.r19, ts.k19, ts.l19, ts.r20, ts.k20, ts.l20, ti, ho, a3, a4, q]
        exact nx
      · simp (disch := omega) only [i_lit, i_neg, i_add, i_sub, i_mul, i_ofNat, i_div, i_le, i_lt, i_eq, i_ix, i_inb, i_max, i_min, e_rem, j_lit, j_i, Int.reduceToNat, Int.reduceAdd, Int.reduceSub, Int.reduceMul, Int.reduceNeg, Int.reduceLT, Int.reduceLE, Int.reduceEq, gd_t, gd_T, ↓bd_m, ↓lh_t, ↓on_m, ↓ec_m, ↓reduceIte, if_true, if_false, true_and, and_true, false_and, and_false, true_or, or_true, false_or, or_false, Bool.false_eq_true, b2i_0, b2i_1, bl_0, bl_1, bl_b2, not_true_eq_false, not_false_eq_true, B_X1_areAlike_2, B_X1_areAlike_34, B_X8_isAlike_2, B_X8_isAlike_27, cs.k, hz, c.k, many_eq c, a1, a2, ts.k, ts.r1, ts.k1, ts.l1, ts.r2, ts.k2, ts.l2, ts.r3, ts.k3, ts.l3, ts.r4, ts.k4, ts.l4, ts.r5, ts.k5, ts.l5, ts.r6, ts.k6, ts.l6, ts.r7, ts.k7, ts.l7, ts.r8, ts.k8, ts.l8, ts.r9, ts.k9, ts.l9, ts.r10, ts.k10, ts.l10, ts.r11, ts.k11, ts.l11, ts.r12, ts.k12, ts.l12, ts.r13, ts.k13, ts.l13, ts.r14, ts.k14, ts.l14, ts.r15, ts.k15, ts.l15, ts.r16, ts.k16, ts.l16, ts.r17, ts.k17, ts.l17, ts.r18, ts.k18, ts.l18, ts.r19, ts.k19, ts.l19, ts.r20, ts.k20, ts.l20, ti, ho, a3, a4, q]
        exact Ok2.some ⟨rfl, Or.inl rfl⟩
  obtain ⟨a, b, h1, h2, rfl, h3⟩ := key
  exact ⟨b, h3, h1, h2⟩
theorem round_none {hT : AH} {m : Nat} {τ : Nat → Int} (t : TN hT m τ) (r2 : 0 ≤ τ 2 ∧ τ 2 ≤ 3000) : ∀ (n k : Nat) (p : Nat), k = 101 - p → 1 ≤ p → p ≤ 101 → ¬ (max 0 (τ 2 - 256) ≤ τ 2 - 2 * (p : Int)) → k < n → lp (L_X8_round_16 hT) n (hT, m, iI (τ 2 - 1), iI p) = some (iI (-1), hT) := by
  have ts := t.s
  intro n k p h1 h2 h3 h4 h5
  have key : Ok1 (lp (L_X8_round_16 hT) n (hT, m, iI (τ 2 - 1), iI p)) (fun r => r = (iI (-1), hT)) := by
    refine lp_ok (fun s k => ∃ p : Nat, s = (hT, m, iI (τ 2 - 1), iI p) ∧ k = 101 - p ∧ 1 ≤ p ∧ p ≤ 101 ∧ ¬ (max 0 (τ 2 - 256) ≤ τ 2 - 2 * (p : Int))) ?_ n k _ ⟨p, rfl, h1, h2, h3, h4⟩ h5
    rintro self s k ⟨p, rfl, rfl, h2, h3, h4⟩ ih
    unfold L_X8_round_16
    by_cases ho : 100 < (p : Int)
    · simp (disch := omega) only [i_lit, i_neg, i_add, i_sub, i_mul, i_ofNat, i_div, i_le, i_lt, i_eq, i_ix, i_inb, i_max, i_min, e_rem, j_lit, j_i, Int.reduceToNat, Int.reduceAdd, Int.reduceSub, Int.reduceMul, Int.reduceNeg, Int.reduceLT, Int.reduceLE, Int.reduceEq, gd_t, gd_T, ↓bd_m, ↓lh_t, ↓on_m, ↓ec_m, ↓reduceIte, if_true, if_false, true_and, and_true, false_and, and_false, true_or, or_true, false_or, or_false, Bool.false_eq_true, b2i_0, b2i_1, bl_0, bl_1, bl_b2, not_true_eq_false, not_false_eq_true, B_X8_round_16, B_X8_round_80, ho]
      exact Ok1.some rfl
    · have nx := ih (hT, m, iI (τ 2 - 1), iI ((p + 1 : Nat) : Int)) (101 - (p + 1)) (by omega) ⟨p + 1, rfl, rfl, by omega, by omega, by omega⟩
      rw [show (((p + 1 : Nat)) : Int) = (p : Int) + 1 by omega] at nx
      have e1 := isBoardT_eq t r2 (y := τ 2 - 1 - 2 * (p : Int) + 1) (by omega)
      rw [b2_f (by omega)] at e1
      have pl : ((p : Int) ≤ 0) = False := eq_false (by omega)
      simp (disch := omega) only [i_lit, i_neg, i_add, i_sub, i_mul, i_ofNat, i_div, i_le, i_lt, i_eq, i_ix, i_inb, i_max, i_min, e_rem, j_lit, j_i, Int.reduceToNat, Int.reduceAdd, Int.reduceSub, Int.reduceMul, Int.reduceNeg, Int.reduceLT, Int.reduceLE, Int.reduceEq, gd_t, gd_T, ↓bd_m, ↓lh_t, ↓on_m, ↓ec_m, ↓reduceIte, if_true, if_false, true_and, and_true, false_and, and_false, true_or, or_true, false_or, or_false, Bool.false_eq_true, b2i_0, b2i_1, bl_0, bl_1, bl_b2, not_true_eq_false, not_false_eq_true, B_X8_round_16, ho, ts.k, e1]
      unfold G_X8_round_37
      rw [show fuel = (fuel - 1) + 1 from rfl, lp_s]
      unfold L_X8_round_37
      simp (disch := omega) only [i_lit, i_neg, i_add, i_sub, i_mul, i_ofNat, i_div, i_le, i_lt, i_eq, i_ix, i_inb, i_max, i_min, e_rem, j_lit, j_i, Int.reduceToNat, Int.reduceAdd, Int.reduceSub, Int.reduceMul, Int.reduceNeg, Int.reduceLT, Int.reduceLE, Int.reduceEq, gd_t, gd_T, ↓bd_m, ↓lh_t, ↓on_m, ↓ec_m, ↓reduceIte, if_true, if_false, true_and, and_true, false_and, and_false, true_or, or_true, false_or, or_false, Bool.false_eq_true, b2i_0, b2i_1, bl_0, bl_1, bl_b2, not_true_eq_false, not_false_eq_true, B_X8_round_37, B_X8_round_68, pl]
      exact nx
  obtain ⟨r, k1, k2⟩ := key
  rw [k1, k2]
theorem round_run {o : Nat → Nat} {t : Nat} {h : AH} {x : Nat} {τ : Nat → Int} {υ : Nat → Int64} {e : Nat → Nat} {el : Nat → Nat → Nat} {lw : Nat} (c : CrP o t h x τ υ e el lw) {z : Nat} (cs : CS h z) (hz : hR h z 0 = some x) {hT : AH} {m : Nat} (t : TN hT m τ) : ∃ w : Int, i31 w ∧ F_X1_round h z = some (iI w) ∧ G_X8_round_16 hT m (iI (τ 2 - 1)) (iI 1) = some (iI w, hT) := by
  have r2 := c.rg.h
  have ts := t.s
  have key : Ok2 (F_X1_round h z) (G_X8_round_16 hT m (iI (τ 2 - 1)) (iI 1)) (fun a b => b = (a, hT) ∧ ∃ w : Int, i31 w ∧ a = iI w) := by
    unfold F_X1_round
    simp (disch := omega) only [i_lit, i_neg, i_add, i_sub, i_mul, i_ofNat, i_div, i_le, i_lt, i_eq, i_ix, i_inb, i_max, i_min, e_rem, j_lit, j_i, Int.reduceToNat, Int.reduceAdd, Int.reduceSub, Int.reduceMul, Int.reduceNeg, Int.reduceLT, Int.reduceLE, Int.reduceEq, gd_t, gd_T, ↓bd_m, ↓lh_t, ↓on_m, ↓ec_m, ↓reduceIte, if_true, if_false, true_and, and_true, false_and, and_false, true_or, or_true, false_or, or_false, Bool.false_eq_true, b2i_0, b2i_1, bl_0, bl_1, bl_b2, not_true_eq_false, not_false_eq_true, cs.k, hz, c.k, c.i9]
    unfold G_X1_round_10 G_X8_round_16
    refine lp_sim (fun s u k => ∃ p : Nat, s = (z, iI (τ 2), iI p) ∧ u = (hT, m, iI (τ 2 - 1), iI p) ∧ k = 101 - p ∧ 1 ≤ p ∧ p ≤ 101) ?_ fuel fuel 100 _ _ ⟨1, rfl, rfl, rfl, by omega, by omega⟩ (lt_fuel (by omega)) (lt_fuel (by omega))
    rintro n1 n2 s u k ⟨p, rfl, rfl, rfl, h1, h2⟩ hk1 hk2 ih
    show Ok2 (B_X1_round_10 h (fun a0 x1 x2 => lp (L_X1_round_10 h) n1 (a0, x1, x2)) z (iI (τ 2)) (iI p)) (B_X8_round_16 hT (fun h a0 x1 x2 => lp (L_X8_round_16 hT) n2 (h, a0, x1, x2)) m (iI (τ 2 - 1)) (iI p)) _
    by_cases ho : 100 < (p : Int)
    · simp (disch := omega) only [i_lit, i_neg, i_add, i_sub, i_mul, i_ofNat, i_div, i_le, i_lt, i_eq, i_ix, i_inb, i_max, i_min, e_rem, j_lit, j_i, Int.reduceToNat, Int.reduceAdd, Int.reduceSub, Int.reduceMul, Int.reduceNeg, Int.reduceLT, Int.reduceLE, Int.reduceEq, gd_t, gd_T, ↓bd_m, ↓lh_t, ↓on_m, ↓ec_m, ↓reduceIte, if_true, if_false, true_and, and_true, false_and, and_false, true_or, or_true, false_or, or_false, Bool.false_eq_true, b2i_0, b2i_1, bl_0, bl_1, bl_b2, not_true_eq_false, not_false_eq_true, B_X1_round_10, B_X1_round_72, B_X8_round_16, B_X8_round_80, ho]
      exact Ok2.some ⟨rfl, -1, by omega, rfl⟩
    · have nx := ih (z, iI (τ 2), iI ((p + 1 : Nat) : Int)) (hT, m, iI (τ 2 - 1), iI ((p + 1 : Nat) : Int)) (101 - (p + 1)) (by omega) ⟨p + 1, rfl, rfl, rfl, by omega, by omega⟩
      rw [show (((p + 1 : Nat)) : Int) = (p : Int) + 1 by omega] at nx
      have e1 := isBoard_eq c (y := τ 2 - 2 * (p : Int)) (by omega)
      have e2 := isBoardT_eq t r2 (y := τ 2 - 1 - 2 * (p : Int) + 1) (by omega)
      by_cases q : max 0 (τ 2 - 256) ≤ τ 2 - 2 * (p : Int)
      · rw [b2_t (by omega)] at e1 e2
        simp (disch := omega) only [i_lit, i_neg, i_add, i_sub, i_mul, i_ofNat, i_div, i_le, i_lt, i_eq, i_ix, i_inb, i_max, i_min, e_rem, j_lit, j_i, Int.reduceToNat, Int.reduceAdd, Int.reduceSub, Int.reduceMul, Int.reduceNeg, Int.reduceLT, Int.reduceLE, Int.reduceEq, gd_t, gd_T, ↓bd_m, ↓lh_t, ↓on_m, ↓ec_m, ↓reduceIte, if_true, if_false, true_and, and_true, false_and, and_false, true_or, or_true, false_or, or_false, Bool.false_eq_true, b2i_0, b2i_1, bl_0, bl_1, bl_b2, not_true_eq_false, not_false_eq_true, B_X1_round_10, B_X8_round_16, ho, cs.k, hz, c.k, e1, ts.k, e2]
        unfold G_X1_round_35 G_X8_round_37
        refine lp_sim (fun s u k => ∃ i : Nat, s = (z, iI (τ 2), iI p, iI ((i : Int) + 1)) ∧ u = (hT, m, iI (τ 2 - 1), iI p, iI 1, iI i) ∧ k = p - i ∧ i ≤ p) ?_ fuel fuel p _ _ ⟨0, rfl, rfl, by omega, by omega⟩ (lt_fuel (by omega)) (lt_fuel (by omega))
        rintro l1 l2 s u k ⟨i, rfl, rfl, rfl, h3⟩ hl1 hl2 ih2
        unfold L_X1_round_35 L_X8_round_37
        show Ok2 (B_X1_round_35 h (fun a0 x1 x2 => lp (L_X1_round_10 h) n1 (a0, x1, x2)) (fun a0 x1 x2 x3 => lp (L_X1_round_35 h (fun a0 x1 x2 => lp (L_X1_round_10 h) n1 (a0, x1, x2))) l1 (a0, x1, x2, x3)) z (iI (τ 2)) (iI p) (iI ((i : Int) + 1))) (B_X8_round_37 hT (fun h a0 x1 x2 => lp (L_X8_round_16 hT) n2 (h, a0, x1, x2)) (fun h a0 x1 x2 x3 x4 => lp (L_X8_round_37 hT (fun h a0 x1 x2 => lp (L_X8_round_16 hT) n2 (h, a0, x1, x2))) l2 (h, a0, x1, x2, x3, x4)) m (iI (τ 2 - 1)) (iI p) (iI 1) (iI i)) _
        have n10F : (iI 1 = iI 0) = False := eq_false (by decide)
        by_cases hp : p ≤ i
        · have q1 : ((p : Int) < (i : Int) + 1) = True := eq_true (by omega)
          have q2 : ((p : Int) ≤ (i : Int)) = True := eq_true (by omega)
          simp (disch := omega) only [i_lit, i_neg, i_add, i_sub, i_mul, i_ofNat, i_div, i_le, i_lt, i_eq, i_ix, i_inb, i_max, i_min, e_rem, j_lit, j_i, Int.reduceToNat, Int.reduceAdd, Int.reduceSub, Int.reduceMul, Int.reduceNeg, Int.reduceLT, Int.reduceLE, Int.reduceEq, gd_t, gd_T, ↓bd_m, ↓lh_t, ↓on_m, ↓ec_m, ↓reduceIte, if_true, if_false, true_and, and_true, false_and, and_false, true_or, or_true, false_or, or_false, Bool.false_eq_true, b2i_0, b2i_1, bl_0, bl_1, bl_b2, not_true_eq_false, not_false_eq_true, B_X1_round_35, B_X1_round_64, B_X8_round_37, B_X8_round_68, B_X8_round_72, q1, q2, n10F]
          exact Ok2.some ⟨rfl, p, by omega, rfl⟩
        · have q1 : ((p : Int) < (i : Int) + 1) = False := eq_false (by omega)
          have q2 : ((p : Int) ≤ (i : Int)) = False := eq_false (by omega)
          obtain ⟨b, hb, a1, a2⟩ := alike_run c cs hz t (y := τ 2 - ((i : Int) + 1)) (w := τ 2 - ((i : Int) + 1) - (p : Int)) (by omega) (by omega)
          have y1 : τ 2 - 1 - (i : Int) = τ 2 - ((i : Int) + 1) := by omega
          rcases hb with rfl | rfl
          · obtain ⟨l2', rfl⟩ : ∃ l, l2 = l + 1 := ⟨l2 - 1, by omega⟩
            simp (disch := omega) only [i_lit, i_neg, i_add, i_sub, i_mul, i_ofNat, i_div, i_le, i_lt, i_eq, i_ix, i_inb, i_max, i_min, e_rem, j_lit, j_i, Int.reduceToNat, Int.reduceAdd, Int.reduceSub, Int.reduceMul, Int.reduceNeg, Int.reduceLT, Int.reduceLE, Int.reduceEq, gd_t, gd_T, ↓bd_m, ↓lh_t, ↓on_m, ↓ec_m, ↓reduceIte, if_true, if_false, true_and, and_true, false_and, and_false, true_or, or_true, false_or, or_false, Bool.false_eq_true, b2i_0, b2i_1, bl_0, bl_1, bl_b2, not_true_eq_false, not_false_eq_true, B_X1_round_35, B_X1_round_55, B_X8_round_37, cs.k, ts.k, q1, q2, a1, y1, a2, n10F]
            rw [lp_s]
            show Ok2 _ (B_X8_round_37 hT (fun h a0 x1 x2 => lp (L_X8_round_16 hT) n2 (h, a0, x1, x2)) (fun h a0 x1 x2 x3 x4 => lp (L_X8_round_37 hT (fun h a0 x1 x2 => lp (L_X8_round_16 hT) n2 (h, a0, x1, x2))) l2' (h, a0, x1, x2, x3, x4)) m (iI (τ 2 - 1)) (iI p) (iI 0) (iI ((i : Int) + 1))) _
            by_cases q3 : (p : Int) ≤ (i : Int) + 1
            · simp (disch := omega) only [i_lit, i_neg, i_add, i_sub, i_mul, i_ofNat, i_div, i_le, i_lt, i_eq, i_ix, i_inb, i_max, i_min, e_rem, j_lit, j_i, Int.reduceToNat, Int.reduceAdd, Int.reduceSub, Int.reduceMul, Int.reduceNeg, Int.reduceLT, Int.reduceLE, Int.reduceEq, gd_t, gd_T, ↓bd_m, ↓lh_t, ↓on_m, ↓ec_m, ↓reduceIte, if_true, if_false, true_and, and_true, false_and, and_false, true_or, or_true, false_or, or_false, Bool.false_eq_true, b2i_0, b2i_1, bl_0, bl_1, bl_b2, not_true_eq_false, not_false_eq_true, B_X8_round_37, B_X8_round_68, q3]
              exact nx
            · simp (disch := omega) only [i_lit, i_neg, i_add, i_sub, i_mul, i_ofNat, i_div, i_le, i_lt, i_eq, i_ix, i_inb, i_max, i_min, e_rem, j_lit, j_i, Int.reduceToNat, Int.reduceAdd, Int.reduceSub, Int.reduceMul, Int.reduceNeg, Int.reduceLT, Int.reduceLE, Int.reduceEq, gd_t, gd_T, ↓bd_m, ↓lh_t, ↓on_m, ↓ec_m, ↓reduceIte, if_true, if_false, true_and, and_true, false_and, and_false, true_or, or_true, false_or, or_false, Bool.false_eq_true, b2i_0, b2i_1, bl_0, bl_1, bl_b2, not_true_eq_false, not_false_eq_true, B_X8_round_37, B_X8_round_68, q3]
              exact nx
          · have nx2 := ih2 (z, iI (τ 2), iI p, iI (((i + 1 : Nat) : Int) + 1)) (hT, m, iI (τ 2 - 1), iI p, iI 1, iI ((i + 1 : Nat) : Int)) (p - (i + 1)) (by omega) ⟨i + 1, rfl, rfl, rfl, by omega⟩
            rw [show (((i + 1 : Nat)) : Int) = (i : Int) + 1 by omega] at nx2
            simp (disch := omega) only [i_lit, i_neg, i_add, i_sub, i_mul, i_ofNat, i_div, i_le, i_lt, i_eq, i_ix, i_inb, i_max, i_min, e_rem, j_lit, j_i, Int.reduceToNat, Int.reduceAdd, Int.reduceSub, Int.reduceMul, Int.reduceNeg, Int.reduceLT, Int.reduceLE, Int.reduceEq, gd_t, gd_T, ↓bd_m, ↓lh_t, ↓on_m, ↓ec_m, ↓reduceIte, if_true, if_false, true_and, and_true, false_and, and_false, true_or, or_true, false_or, or_false, Bool.false_eq_true, b2i_0, b2i_1, bl_0, bl_1, bl_b2, not_true_eq_false, not_false_eq_true, B_X1_round_35, B_X8_round_37, cs.k, ts.k, q1, q2, a1, y1, a2, n10F]
            exact nx2
      · rw [b2_f (by omega)] at e1 e2
        have pl : ((p : Int) ≤ 0) = False := eq_false (by omega)
        have e3 := round_none t r2 n2 (101 - (p + 1)) (p + 1) rfl (by omega) (by omega) (by omega) (by omega)
        rw [show (((p + 1 : Nat)) : Int) = (p : Int) + 1 by omega] at e3
        simp (disch := omega) only [i_lit, i_neg, i_add, i_sub, i_mul, i_ofNat, i_div, i_le, i_lt, i_eq, i_ix, i_inb, i_max, i_min, e_rem, j_lit, j_i, Int.reduceToNat, Int.reduceAdd, Int.reduceSub, Int.reduceMul, Int.reduceNeg, Int.reduceLT, Int.reduceLE, Int.reduceEq, gd_t, gd_T, ↓bd_m, ↓lh_t, ↓on_m, ↓ec_m, ↓reduceIte, if_true, if_false, true_and, and_true, false_and, and_false, true_or, or_true, false_or, or_false, Bool.false_eq_true, b2i_0, b2i_1, bl_0, bl_1, bl_b2, not_true_eq_false, not_false_eq_true, B_X1_round_10, B_X1_round_31, B_X8_round_16, ho, cs.k, hz, c.k, e1, ts.k, e2]
        unfold G_X8_round_37
        rw [show fuel = (fuel - 1) + 1 from rfl, lp_s]
        unfold L_X8_round_37
        simp (disch := omega) only [i_lit, i_neg, i_add, i_sub, i_mul, i_ofNat, i_div, i_le, i_lt, i_eq, i_ix, i_inb, i_max, i_min, e_rem, j_lit, j_i, Int.reduceToNat, Int.reduceAdd, Int.reduceSub, Int.reduceMul, Int.reduceNeg, Int.reduceLT, Int.reduceLE, Int.reduceEq, gd_t, gd_T, ↓bd_m, ↓lh_t, ↓on_m, ↓ec_m, ↓reduceIte, if_true, if_false, true_and, and_true, false_and, and_false, true_or, or_true, false_or, or_false, Bool.false_eq_true, b2i_0, b2i_1, bl_0, bl_1, bl_b2, not_true_eq_false, not_false_eq_true, B_X8_round_37, B_X8_round_68, pl, e3]
        exact Ok2.some ⟨rfl, -1, by omega, rfl⟩
  obtain ⟨a, b, h1, h2, rfl, w, hw, rfl⟩ := key
  exact ⟨w, hw, h1, h2⟩
theorem op_round {z m : Nat} : ∀ hC hT, Rx hC hT z m → rm z hC → Ok2 (Option.bind (F_X1_round hC z) fun v => some (v, hC)) (F_X8_round hT m) (fun a b => VE a b ∧ FC z hC a.2 ∧ FT m hT b.2 ∧ Rx a.2 b.2 z m) := by
  intro hC hT ⟨o, x, τ, υ, e, el, lw, r⟩ g
  have hn4 := r.c.rg.n
  have cs := r.cs
  have c := r.c
  have hz := r.hz
  have ts0 := r.tn.s
  have tn := r.tn.wm 5 (iI 0)
  have ti := tn.i
  have ts := tn.s
  have hgi := c.rg.i
  have gr : 1 ≤ hc hC ∧ 6 ≤ hs hC := by have := g.1; have := g.2.1; omega
  have R : Rx hC (wI hT m 5 (iI 0)) z m := ⟨o, x, τ, υ, e, el, lw, r.thr 5 (by omega) _⟩
  have r2 := c.rg.h
  obtain ⟨w, hw, e1, e2⟩ := round_run c cs hz tn
  simp (disch := omega) only [i_lit, i_neg, i_add, i_sub, i_mul, i_ofNat, i_div, i_le, i_lt, i_eq, i_ix, i_inb, i_max, i_min, e_rem, j_lit, j_i, Int.reduceToNat, Int.reduceAdd, Int.reduceSub, Int.reduceMul, Int.reduceNeg, Int.reduceLT, Int.reduceLE, Int.reduceEq, gd_t, gd_T, ↓bd_m, ↓lh_t, ↓on_m, ↓ec_m, ↓reduceIte, if_true, if_false, true_and, and_true, false_and, and_false, true_or, or_true, false_or, or_false, Bool.false_eq_true, b2i_0, b2i_1, bl_0, bl_1, bl_b2, not_true_eq_false, not_false_eq_true, e1, F_X8_round, B_X8_round_5, ts0.k, ts0.r1, ts0.k1, ts0.l1, ts0.r2, ts0.k2, ts0.l2, ts0.r3, ts0.k3, ts0.l3, ts0.r4, ts0.k4, ts0.l4, ts0.r5, ts0.k5, ts0.l5, ts0.r6, ts0.k6, ts0.l6, ts0.r7, ts0.k7, ts0.l7, ts0.r8, ts0.k8, ts0.l8, ts0.r9, ts0.k9, ts0.l9, ts0.r10, ts0.k10, ts0.l10, ts0.r11, ts0.k11, ts0.l11, ts0.r12, ts0.k12, ts0.l12, ts0.r13, ts0.k13, ts0.l13, ts0.r14, ts0.k14, ts0.l14, ts0.r15, ts0.k15, ts0.l15, ts0.r16, ts0.k16, ts0.l16, ts0.r17, ts0.k17, ts0.l17, ts0.r18, ts0.k18, ts0.l18, ts0.r19, ts0.k19, ts0.l19, ts0.r20, ts0.k20, ts0.l20, hK_wI, hL_wI, hR_wI, ti, e2]
  exact Ok2.some ⟨rfl, FC.rfl _ _, FT.thr _ _ _ _, R⟩
