/-! PURE GB: the games' tables, the reference's; what calls of games share -/
set_option maxRecDepth 100000
def TP (m a : Nat) : Prop := a = m + 10 ∨ a = m + 12
/-- the tables ahead of (i, j) are laid -/
def gtT (τ : Nat → Int) (m a b : Nat) (g : AH) (i j : Nat) : Prop := ∀ i' j' : Nat, (i' : Int) < τ 3 → (j' : Int) < τ 3 → (i' < i ∨ (i' = i ∧ j' < j)) → hI g (m + 12) (8 * i' + j') = iI (gnS τ (prS τ a b i' j') a) ∧ hI g (m + 12) (64 + 8 * i' + j') = iI (gnS τ (prS τ a b i' j') b)
theorem layG_eq {h : AH} {m : Nat} {τ : Nat → Int} (t : TN h m τ) (rg : RG τ) {a b : Nat} (ha : (a : Int) < τ 0) (hb : (b : Int) < τ 0) (hab : a ≠ b) : ∃ h', F_X8_layGains h m (iI a) (iI b) = some h' ∧ tf (TP m) h h' ∧ ∀ i j : Nat, (i : Int) < τ 3 → (j : Int) < τ 3 → hI h' (m + 12) (8 * i + j) = iI (gnS τ (prS τ a b i j) a) ∧ hI h' (m + 12) (64 + 8 * i + j) = iI (gnS τ (prS τ a b i j) b) := by
  have hn4 := rg.n
  have hl8 := rg.l
  have ts := t.s
  have n1 : ¬ TP m (m + 1) := by unfold TP; omega
  have key : Ok1 (F_X8_layGains h m (iI a) (iI b)) (fun h' => tf (TP m) h h' ∧ ∀ i j : Nat, (i : Int) < τ 3 → (j : Int) < τ 3 → hI h' (m + 12) (8 * i + j) = iI (gnS τ (prS τ a b i j) a) ∧ hI h' (m + 12) (64 + 8 * i + j) = iI (gnS τ (prS τ a b i j) b)) := by
    obtain ⟨g0, a1, a2, a3⟩ := present_eq t hn4
    have T0 : tf (TP m) h g0 := a2.mono (fun a q => Or.inl q)
    unfold F_X8_layGains
    simp (disch := omega) only [i_lit, i_neg, i_add, i_sub, i_mul, i_ofNat, i_div, i_le, i_lt, i_eq, i_ix, i_inb, i_max, i_min, e_rem, j_lit, j_i, Int.reduceToNat, Int.reduceAdd, Int.reduceSub, Int.reduceMul, Int.reduceNeg, Int.reduceLT, Int.reduceLE, Int.reduceEq, gd_t, gd_T, ↓bd_m, ↓on_m, ↓ec_m, ↓reduceIte, if_true, if_false, true_and, and_true, false_and, and_false, true_or, or_true, false_or, or_false, Bool.false_eq_true, b2i_0, b2i_1, bl_0, bl_1, bl_b2, not_true_eq_false, not_false_eq_true, ts.k, a1]
    unfold G_X8_layGains_6
    refine lp_ok (fun st n => ∃ (g : AH) (i : Nat), st = (g, m, iI a, iI b, iI i) ∧ (i : Int) ≤ τ 3 ∧ n = (τ 3 - i).toNat ∧ tf (TP m) h g ∧ (∀ s : Nat, (s : Int) < τ 0 → s ≠ a → s ≠ b → hI g (m + 10) s = iI (τ (12 + s))) ∧ gtT τ m a b g i 0) ?_ fuel (τ 3).toNat _ ⟨g0, 0, rfl, by omega, by simp, T0, fun s hs _ _ => by rw [a3 s (by omega)]; unfold nowS; rw [if_pos hs], fun i' j' _ _ q => by omega⟩ (lt_fuel (by omega))
    rintro self st n ⟨g, i, rfl, h1, rfl, T1, p1, f1⟩ ih
    have t1 := t.tf T1 n1
    have ts1 := t1.s
    have ti1 := t1.i
    unfold L_X8_layGains_6
    by_cases ho : τ 3 ≤ (i : Int)
    · simp (disch := omega) only [i_lit, i_neg, i_add, i_sub, i_mul, i_ofNat, i_div, i_le, i_lt, i_eq, i_ix, i_inb, i_max, i_min, e_rem, j_lit, j_i, Int.reduceToNat, Int.reduceAdd, Int.reduceSub, Int.reduceMul, Int.reduceNeg, Int.reduceLT, Int.reduceLE, Int.reduceEq, gd_t, gd_T, ↓bd_m, ↓on_m, ↓ec_m, ↓reduceIte, if_true, if_false, true_and, and_true, false_and, and_false, true_or, or_true, false_or, or_false, Bool.false_eq_true, b2i_0, b2i_1, bl_0, bl_1, bl_b2, not_true_eq_false, not_false_eq_true, B_X8_layGains_6, ts1.k, ts1.r1, ts1.k1, ts1.l1, ts1.r2, ts1.k2, ts1.l2, ts1.r3, ts1.k3, ts1.l3, ts1.r4, ts1.k4, ts1.l4, ts1.r5, ts1.k5, ts1.l5, ts1.r6, ts1.k6, ts1.l6, ts1.r7, ts1.k7, ts1.l7, ts1.r8, ts1.k8, ts1.l8, ts1.r9, ts1.k9, ts1.l9, ts1.r10, ts1.k10, ts1.l10, ts1.r11, ts1.k11, ts1.l11, ts1.r12, ts1.k12, ts1.l12, ts1.r13, ts1.k13, ts1.l13, ts1.r14, ts1.k14, ts1.l14, ts1.r15, ts1.k15, ts1.l15, ts1.r16, ts1.k16, ts1.l16, ts1.r17, ts1.k17, ts1.l17, ts1.r18, ts1.k18, ts1.l18, ts1.r19, ts1.k19, ts1.l19, ts1.r20, ts1.k20, ts1.l20, ti1, ho]
      exact Ok1.some ⟨T1, fun i' j' q1 q2 => f1 i' j' q1 q2 (by omega)⟩
    · simp (disch := omega) only [i_lit, i_neg, i_add, i_sub, i_mul, i_ofNat, i_div, i_le, i_lt, i_eq, i_ix, i_inb, i_max, i_min, e_rem, j_lit, j_i, Int.reduceToNat, Int.reduceAdd, Int.reduceSub, Int.reduceMul, Int.reduceNeg, Int.reduceLT, Int.reduceLE, Int.reduceEq, gd_t, gd_T, ↓bd_m, ↓on_m, ↓ec_m, ↓reduceIte, if_true, if_false, true_and, and_true, false_and, and_false, true_or, or_true, false_or, or_false, Bool.false_eq_true, b2i_0, b2i_1, bl_0, bl_1, bl_b2, not_true_eq_false, not_false_eq_true, B_X8_layGains_6, ts1.k, ts1.r1, ts1.k1, ts1.l1, ts1.r2, ts1.k2, ts1.l2, ts1.r3, ts1.k3, ts1.l3, ts1.r4, ts1.k4, ts1.l4, ts1.r5, ts1.k5, ts1.l5, ts1.r6, ts1.k6, ts1.l6, ts1.r7, ts1.k7, ts1.l7, ts1.r8, ts1.k8, ts1.l8, ts1.r9, ts1.k9, ts1.l9, ts1.r10, ts1.k10, ts1.l10, ts1.r11, ts1.k11, ts1.l11, ts1.r12, ts1.k12, ts1.l12, ts1.r13, ts1.k13, ts1.l13, ts1.r14, ts1.k14, ts1.l14, ts1.r15, ts1.k15, ts1.l15, ts1.r16, ts1.k16, ts1.l16, ts1.r17, ts1.k17, ts1.l17, ts1.r18, ts1.k18, ts1.l18, ts1.r19, ts1.k19, ts1.l19, ts1.r20, ts1.k20, ts1.l20, ti1, ho]
      have ih' := fun g2 (x1 : tf (TP m) h g2) x2 x3 => ih (g2, m, iI a, iI b, iI ((i + 1 : Nat) : Int)) (τ 3 - ((i + 1 : Nat) : Int)).toNat (by omega) ⟨g2, i + 1, rfl, by omega, rfl, x1, x2, x3⟩
      rw [show (((i + 1 : Nat)) : Int) = (i : Int) + 1 by omega] at ih'
      clear ih t1 ts1 ti1
      unfold G_X8_layGains_19
      refine lp_ok (fun st n => ∃ (g : AH) (j : Nat), st = (g, m, iI a, iI b, iI i, iI j) ∧ (j : Int) ≤ τ 3 ∧ n = (τ 3 - j).toNat ∧ tf (TP m) h g ∧ (∀ s : Nat, (s : Int) < τ 0 → s ≠ a → s ≠ b → hI g (m + 10) s = iI (τ (12 + s))) ∧ gtT τ m a b g i j) ?_ fuel (τ 3).toNat _ ⟨g, 0, rfl, by omega, by simp, T1, p1, f1⟩ (lt_fuel (by omega))
      clear T1 p1 f1
      rintro self2 st n ⟨g, j, rfl, h2, rfl, T1, p1, f1⟩ ih2
      have t1 := t.tf T1 n1
      have ts1 := t1.s
      have ti1 := t1.i
      unfold L_X8_layGains_19
      by_cases hj : τ 3 ≤ (j : Int)
      · simp (disch := omega) only [i_lit, i_neg, i_add, i_sub, i_mul, i_ofNat, i_div, i_le, i_lt, i_eq, i_ix, i_inb, i_max, i_min, e_rem, j_lit, j_i, Int.reduceToNat, Int.reduceAdd, Int.reduceSub, Int.reduceMul, Int.reduceNeg, Int.reduceLT, Int.reduceLE, Int.reduceEq, gd_t, gd_T, ↓bd_m, ↓on_m, ↓ec_m, ↓reduceIte, if_true, if_false, true_and, and_true, false_and, and_false, true_or, or_true, false_or, or_false, Bool.false_eq_true, b2i_0, b2i_1, bl_0, bl_1, bl_b2, not_true_eq_false, not_false_eq_true, B_X8_layGains_19, B_X8_layGains_104, ts1.k, ts1.r1, ts1.k1, ts1.l1, ts1.r2, ts1.k2, ts1.l2, ts1.r3, ts1.k3, ts1.l3, ts1.r4, ts1.k4, ts1.l4, ts1.r5, ts1.k5, ts1.l5, ts1.r6, ts1.k6, ts1.l6, ts1.r7, ts1.k7, ts1.l7, ts1.r8, ts1.k8, ts1.l8, ts1.r9, ts1.k9, ts1.l9, ts1.r10, ts1.k10, ts1.l10, ts1.r11, ts1.k11, ts1.l11, ts1.r12, ts1.k12, ts1.l12, ts1.r13, ts1.k13, ts1.l13, ts1.r14, ts1.k14, ts1.l14, ts1.r15, ts1.k15, ts1.l15, ts1.r16, ts1.k16, ts1.l16, ts1.r17, ts1.k17, ts1.l17, ts1.r18, ts1.k18, ts1.l18, ts1.r19, ts1.k19, ts1.l19, ts1.r20, ts1.k20, ts1.l20, ti1, hj]
        exact ih' g T1 p1 (fun i' j' q1 q2 q3 => f1 i' j' q1 q2 (by omega))
      · have GZ : TP m (m + 10) := Or.inl rfl
        have GA : TP m (m + 12) := Or.inr rfl
        have x1 : (52 + (i : Int)).toNat = 52 + i := by omega
        have x2 : (52 + (j : Int)).toNat = 52 + j := by omega
        have x3 : (8 * (i : Int) + (j : Int)).toNat = 8 * i + j := by omega
        have x4 : (64 + 8 * (i : Int) + (j : Int)).toNat = 64 + 8 * i + j := by omega
        simp (disch := omega) only [i_lit, i_neg, i_add, i_sub, i_mul, i_ofNat, i_div, i_le, i_lt, i_eq, i_ix, i_inb, i_max, i_min, e_rem, j_lit, j_i, Int.reduceToNat, Int.reduceAdd, Int.reduceSub, Int.reduceMul, Int.reduceNeg, Int.reduceLT, Int.reduceLE, Int.reduceEq, gd_t, gd_T, ↓bd_m, ↓on_m, ↓ec_m, ↓reduceIte, if_true, if_false, true_and, and_true, false_and, and_false, true_or, or_true, false_or, or_false, Bool.false_eq_true, b2i_0, b2i_1, bl_0, bl_1, bl_b2, not_true_eq_false, not_false_eq_true, B_X8_layGains_19, ts1.k, ts1.r1, ts1.k1, ts1.l1, ts1.r2, ts1.k2, ts1.l2, ts1.r3, ts1.k3, ts1.l3, ts1.r4, ts1.k4, ts1.l4, ts1.r5, ts1.k5, ts1.l5, ts1.r6, ts1.k6, ts1.l6, ts1.r7, ts1.k7, ts1.l7, ts1.r8, ts1.k8, ts1.l8, ts1.r9, ts1.k9, ts1.l9, ts1.r10, ts1.k10, ts1.l10, ts1.r11, ts1.k11, ts1.l11, ts1.r12, ts1.k12, ts1.l12, ts1.r13, ts1.k13, ts1.l13, ts1.r14, ts1.k14, ts1.l14, ts1.r15, ts1.k15, ts1.l15, ts1.r16, ts1.k16, ts1.l16, ts1.r17, ts1.k17, ts1.l17, ts1.r18, ts1.k18, ts1.l18, ts1.r19, ts1.k19, ts1.l19, ts1.r20, ts1.k20, ts1.l20, ti1, hj, x1, Int.toNat_natCast]
        refine fw2 T1 GZ (fun g2 T2 u2 d2 _ => ?_)
        have t2 := t.tf T2 n1
        have ts2 := t2.s
        have ti2 := t2.i
        simp (disch := omega) only [i_lit, i_neg, i_add, i_sub, i_mul, i_ofNat, i_div, i_le, i_lt, i_eq, i_ix, i_inb, i_max, i_min, e_rem, j_lit, j_i, Int.reduceToNat, Int.reduceAdd, Int.reduceSub, Int.reduceMul, Int.reduceNeg, Int.reduceLT, Int.reduceLE, Int.reduceEq, gd_t, gd_T, ↓bd_m, ↓on_m, ↓ec_m, ↓reduceIte, if_true, if_false, true_and, and_true, false_and, and_false, true_or, or_true, false_or, or_false, Bool.false_eq_true, b2i_0, b2i_1, bl_0, bl_1, bl_b2, not_true_eq_false, not_false_eq_true, B_X8_layGains_45, ts2.k, ts2.r1, ts2.k1, ts2.l1, ts2.r2, ts2.k2, ts2.l2, ts2.r3, ts2.k3, ts2.l3, ts2.r4, ts2.k4, ts2.l4, ts2.r5, ts2.k5, ts2.l5, ts2.r6, ts2.k6, ts2.l6, ts2.r7, ts2.k7, ts2.l7, ts2.r8, ts2.k8, ts2.l8, ts2.r9, ts2.k9, ts2.l9, ts2.r10, ts2.k10, ts2.l10, ts2.r11, ts2.k11, ts2.l11, ts2.r12, ts2.k12, ts2.l12, ts2.r13, ts2.k13, ts2.l13, ts2.r14, ts2.k14, ts2.l14, ts2.r15, ts2.k15, ts2.l15, ts2.r16, ts2.k16, ts2.l16, ts2.r17, ts2.k17, ts2.l17, ts2.r18, ts2.k18, ts2.l18, ts2.r19, ts2.k19, ts2.l19, ts2.r20, ts2.k20, ts2.l20, ti2, x2, Int.toNat_natCast]
        refine fw2 T2 GZ (fun g3 T3 u3 d3 _ => ?_)
        have t3 := t.tf T3 n1
        have ts3 := t3.s
        have pr : ∀ s : Nat, (s : Int) < τ 0 → hI g3 (m + 10) s = iI (prS τ a b i j s) := fun s hs => by
          unfold prS
          by_cases q1 : s = b
          · rw [if_pos q1, q1]; exact u3
          · rw [if_neg q1, d3 _ _ (by omega)]
            by_cases q2 : s = a
            · rw [if_pos q2, q2]; exact u2
            · rw [if_neg q2, d2 _ _ (by omega)]
              exact p1 s hs q2 q1
        have hp := prS_rng rg (a := a) (b := b) (i := i) (j := j) (by omega) (by omega)
        have e1 := profit_eq t3 rg pr hp ha
        simp (disch := omega) only [i_lit, i_neg, i_add, i_sub, i_mul, i_ofNat, i_div, i_le, i_lt, i_eq, i_ix, i_inb, i_max, i_min, e_rem, j_lit, j_i, Int.reduceToNat, Int.reduceAdd, Int.reduceSub, Int.reduceMul, Int.reduceNeg, Int.reduceLT, Int.reduceLE, Int.reduceEq, gd_t, gd_T, ↓bd_m, ↓on_m, ↓ec_m, ↓reduceIte, if_true, if_false, true_and, and_true, false_and, and_false, true_or, or_true, false_or, or_false, Bool.false_eq_true, b2i_0, b2i_1, bl_0, bl_1, bl_b2, not_true_eq_false, not_false_eq_true, B_X8_layGains_61, ts3.k, ts3.r1, ts3.k1, ts3.l1, ts3.r2, ts3.k2, ts3.l2, ts3.r3, ts3.k3, ts3.l3, ts3.r4, ts3.k4, ts3.l4, ts3.r5, ts3.k5, ts3.l5, ts3.r6, ts3.k6, ts3.l6, ts3.r7, ts3.k7, ts3.l7, ts3.r8, ts3.k8, ts3.l8, ts3.r9, ts3.k9, ts3.l9, ts3.r10, ts3.k10, ts3.l10, ts3.r11, ts3.k11, ts3.l11, ts3.r12, ts3.k12, ts3.l12, ts3.r13, ts3.k13, ts3.l13, ts3.r14, ts3.k14, ts3.l14, ts3.r15, ts3.k15, ts3.l15, ts3.r16, ts3.k16, ts3.l16, ts3.r17, ts3.k17, ts3.l17, ts3.r18, ts3.k18, ts3.l18, ts3.r19, ts3.k19, ts3.l19, ts3.r20, ts3.k20, ts3.l20, e1, x3]
        refine fw2 T3 GA (fun g4 T4 u4 d4 _ => ?_)
        have t4 := t.tf T4 n1
        have ts4 := t4.s
        have e2 := profit_eq t4 rg (fun s hs => by rw [d4 _ _ (by omega)]; exact pr s hs) hp hb
        simp (disch := omega) only [i_lit, i_neg, i_add, i_sub, i_mul, i_ofNat, i_div, i_le, i_lt, i_eq, i_ix, i_inb, i_max, i_min, e_rem, j_lit, j_i, Int.reduceToNat, Int.reduceAdd, Int.reduceSub, Int.reduceMul, Int.reduceNeg, Int.reduceLT, Int.reduceLE, Int.reduceEq, gd_t, gd_T, ↓bd_m, ↓on_m, ↓ec_m, ↓reduceIte, if_true, if_false, true_and, and_true, false_and, and_false, true_or, or_true, false_or, or_false, Bool.false_eq_true, b2i_0, b2i_1, bl_0, bl_1, bl_b2, not_true_eq_false, not_false_eq_true, B_X8_layGains_78, ts4.k, ts4.r1, ts4.k1, ts4.l1, ts4.r2, ts4.k2, ts4.l2, ts4.r3, ts4.k3, ts4.l3, ts4.r4, ts4.k4, ts4.l4, ts4.r5, ts4.k5, ts4.l5, ts4.r6, ts4.k6, ts4.l6, ts4.r7, ts4.k7, ts4.l7, ts4.r8, ts4.k8, ts4.l8, ts4.r9, ts4.k9, ts4.l9, ts4.r10, ts4.k10, ts4.l10, ts4.r11, ts4.k11, ts4.l11, ts4.r12, ts4.k12, ts4.l12, ts4.r13, ts4.k13, ts4.l13, ts4.r14, ts4.k14, ts4.l14, ts4.r15, ts4.k15, ts4.l15, ts4.r16, ts4.k16, ts4.l16, ts4.r17, ts4.k17, ts4.l17, ts4.r18, ts4.k18, ts4.l18, ts4.r19, ts4.k19, ts4.l19, ts4.r20, ts4.k20, ts4.l20, e2, x4]
        refine fw2 T4 GA (fun g5 T5 u5 d5 _ => ?_)
        have ih3 := ih2 (g5, m, iI a, iI b, iI i, iI ((j + 1 : Nat) : Int)) (τ 3 - ((j + 1 : Nat) : Int)).toNat (by omega) ⟨g5, j + 1, rfl, by omega, rfl, T5, fun s hs q1 q2 => ?_, fun i' j' q1 q2 q3 => ?_⟩
        · rw [show (((j + 1 : Nat)) : Int) = (j : Int) + 1 by omega] at ih3
          simp (disch := omega) only [i_lit, i_neg, i_add, i_sub, i_mul, i_ofNat, i_div, i_le, i_lt, i_eq, i_ix, i_inb, i_max, i_min, e_rem, j_lit, j_i, Int.reduceToNat, Int.reduceAdd, Int.reduceSub, Int.reduceMul, Int.reduceNeg, Int.reduceLT, Int.reduceLE, Int.reduceEq, gd_t, gd_T, ↓bd_m, ↓on_m, ↓ec_m, ↓reduceIte, if_true, if_false, true_and, and_true, false_and, and_false, true_or, or_true, false_or, or_false, Bool.false_eq_true, b2i_0, b2i_1, bl_0, bl_1, bl_b2, not_true_eq_false, not_false_eq_true, B_X8_layGains_98]
          exact ih3
        · rw [d5 _ _ (by omega), d4 _ _ (by omega), d3 _ _ (by omega), d2 _ _ (by omega)]
          exact p1 s hs q1 q2
        · by_cases q : i' = i ∧ j' = j
          · rw [q.1, q.2]
            exact ⟨by rw [d5 _ _ (by omega)]; exact u4, u5⟩
          · have f0 := f1 i' j' q1 q2 (by omega)
            have fr : ∀ l, (l = 8 * i' + j' ∨ l = 64 + 8 * i' + j') → hI g5 (m + 12) l = hI g (m + 12) l := fun l hl => by
              rw [d5 _ _ (by omega), d4 _ _ (by omega), d3 _ _ (by omega), d2 _ _ (by omega)]
            rw [fr _ (Or.inl rfl), fr _ (Or.inr rfl)]
            exact f0
  obtain ⟨h', k1, k2, k3⟩ := key
  exact ⟨h', k1, k2, k3⟩
theorem RL.fin {o : Nat → Nat} {hC hT : AH} {z m x : Nat} {τ : Nat → Int} {υ : Nat → Int64} {e : Nat → Nat} {el : Nat → Nat → Nat} {lw : Nat} (r : RL o hC hT z m x τ υ e el lw) (g : rm z hC) {hC' hT' : AH} {P : Nat → Prop} (T1 : tf P hC hC') (hP : ∀ a, P a → scr z a) (T2 : tf (fun a => m ≤ a ∧ a ≤ m + 20) (wI hT m 5 (iI 0)) hT') (S2 : tS m (wI hT m 5 (iI 0)) hT') (h5 : hI hT' m 5 = iI 0) (v : Int32) (w : Int64) (hw : w = v.toInt64) : VI z m (iI 0, wJ hC' (z + 495) 0 w) (v, hT') ∧ FC z hC (wJ hC' (z + 495) 0 w) ∧ FT m hT hT' ∧ Rx (wJ hC' (z + 495) 0 w) hT' z m := by
  refine ⟨⟨h5.symm, fun _ => ?_⟩, FC.tf T1 hP _ _, (FT.thr _ _ _ _).trans T2, ⟨o, x, τ, υ, e, el, lw, (((r.scC g.2.2.2.2 (cS.tf T1 hP)).out (g.tf T1) 0 w).thr 5 (by omega) (iI 0)).scT S2⟩⟩
  rw [hJ_wJ, if_pos ⟨rfl, rfl⟩]
  exact hw
theorem RL.finT {o : Nat → Nat} {hC hT : AH} {z m x : Nat} {τ : Nat → Int} {υ : Nat → Int64} {e : Nat → Nat} {el : Nat → Nat → Nat} {lw : Nat} (r : RL o hC hT z m x τ υ e el lw) (g : rm z hC) {hC' hT' : AH} {P P2 : Nat → Prop} (T1 : tf P hC hC') (hP : ∀ a, P a → scr z a) (T2 : tf P2 (wI hT m 5 (iI 0)) hT') (hP2 : ∀ a, P2 a → m + 7 ≤ a ∧ a ≤ m + 17) (v : Int32) (w : Int64) (hw : w = v.toInt64) : VI z m (iI 0, wJ hC' (z + 495) 0 w) (v, hT') ∧ FC z hC (wJ hC' (z + 495) 0 w) ∧ FT m hT hT' ∧ Rx (wJ hC' (z + 495) 0 w) hT' z m :=
  r.fin g T1 hP (T2.mono (fun a q => by have := hP2 a q; omega)) (tS.tf (r.tn.wm 5 (iI 0)).s T2 hP2) (by rw [T2.I (fun q => by have := hP2 m q; omega), hI_wI, if_pos ⟨rfl, rfl⟩]) v w hw
theorem RL.bad1 {o : Nat → Nat} {hC hT : AH} {z m x : Nat} {τ : Nat → Int} {υ : Nat → Int64} {e : Nat → Nat} {el : Nat → Nat → Nat} {lw : Nat} (r : RL o hC hT z m x τ υ e el lw) (k : Int32) (hk : k ≠ 0) : VI z m (k, nw hC 0 0 6) (iI 0, wI hT m 5 k) ∧ FC z hC (nw hC 0 0 6) ∧ FT m hT (wI hT m 5 k) ∧ Rx (nw hC 0 0 6) (wI hT m 5 k) z m :=
  ⟨⟨by show k = _; rw [hI_wI, if_pos ⟨rfl, rfl⟩], fun w => absurd w hk⟩, FC.nw0 r, FT.thr _ _ _ _, ⟨o, x, τ, υ, e, el, lw, (r.nw0 0 6).thr 5 (by omega) _⟩⟩
theorem two_cases {o : Nat → Nat} {hC hT : AH} {z m x : Nat} {τ : Nat → Int} {υ : Nat → Int64} {e : Nat → Nat} {el : Nat → Nat → Nat} {lw : Nat} (r : RL o hC hT z m x τ υ e el lw) (gr : 1 ≤ hc hC ∧ 6 ≤ hs hC) {ia ib : Int} (h1 : i31 ia) (h2 : i31 ib) :
    (∃ a b : Nat, ia = (a : Int) ∧ ib = (b : Int) ∧ (a : Int) < τ 0 ∧ (b : Int) < τ 0 ∧ a ≠ b ∧ F_X1_mustBeTwo hC z (iI ia) (iI ib) = some (.inl ((), hC)) ∧ ∀ g, TN g m τ → F_X8_pairFault g m (iI ia) (iI ib) = some (iI 0)) ∨
    (F_X1_mustBeTwo hC z (iI ia) (iI ib) = some (.inr (3, hn hC, nw hC 0 0 6)) ∧ ∀ g, TN g m τ → F_X8_pairFault g m (iI ia) (iI ib) = some (iI 1)) ∨
    (F_X1_mustBeTwo hC z (iI ia) (iI ib) = some (.inr (2, hn hC, nw hC 0 0 6)) ∧ ∀ g, TN g m τ → F_X8_pairFault g m (iI ia) (iI ib) = some (iI 2)) := by
  have c := r.c
  have cs := r.cs
  have hz := r.hz
  have hn4 := c.rg.n
  by_cases q1 : 0 ≤ ia ∧ ia ≤ τ 0 - 1
  · have s1 := stationOf_t c cs hz q1
    by_cases q2 : 0 ≤ ib ∧ ib ≤ τ 0 - 1
    · have s2 := stationOf_t c cs hz q2
      by_cases q3 : ia = ib
      · have qT : (ia = ib) = True := eq_true q3
        refine Or.inr (Or.inr ⟨?_, fun g t => ?_⟩)
        · unfold F_X1_mustBeTwo
          simp (disch := omega) only [i_lit, i_neg, i_add, i_sub, i_mul, i_ofNat, i_div, i_le, i_lt, i_eq, i_ix, i_inb, i_max, i_min, e_rem, j_lit, j_i, Int.reduceToNat, Int.reduceAdd, Int.reduceSub, Int.reduceMul, Int.reduceNeg, Int.reduceLT, Int.reduceLE, Int.reduceEq, gd_t, gd_T, ↓bd_m, ↓on_m, ↓ec_m, ↓reduceIte, if_true, if_false, true_and, and_true, false_and, and_false, true_or, or_true, false_or, or_false, Bool.false_eq_true, b2i_0, b2i_1, bl_0, bl_1, bl_b2, not_true_eq_false, not_false_eq_true, B_X1_mustBeTwo_22, cs.k, s1, s2, qT, right_f gr]
        · have e1 := isStation_eq t hn4 h1
          have e2 := isStation_eq t hn4 h2
          rw [b2_t q1] at e1
          rw [b2_t q2] at e2
          unfold F_X8_pairFault
          simp (disch := omega) only [i_lit, i_neg, i_add, i_sub, i_mul, i_ofNat, i_div, i_le, i_lt, i_eq, i_ix, i_inb, i_max, i_min, e_rem, j_lit, j_i, Int.reduceToNat, Int.reduceAdd, Int.reduceSub, Int.reduceMul, Int.reduceNeg, Int.reduceLT, Int.reduceLE, Int.reduceEq, gd_t, gd_T, ↓bd_m, ↓on_m, ↓ec_m, ↓reduceIte, if_true, if_false, true_and, and_true, false_and, and_false, true_or, or_true, false_or, or_false, Bool.false_eq_true, b2i_0, b2i_1, bl_0, bl_1, bl_b2, not_true_eq_false, not_false_eq_true, B_X8_pairFault_30, t.s.k, e1, e2, qT]
      · have qT : (ia = ib) = False := eq_false q3
        obtain ⟨a, ha⟩ := Int.eq_ofNat_of_zero_le q1.1
        obtain ⟨b, hb⟩ := Int.eq_ofNat_of_zero_le q2.1
        refine Or.inl ⟨a, b, ha, hb, by omega, by omega, by omega, ?_, fun g t => ?_⟩
        · unfold F_X1_mustBeTwo
          simp (disch := omega) only [i_lit, i_neg, i_add, i_sub, i_mul, i_ofNat, i_div, i_le, i_lt, i_eq, i_ix, i_inb, i_max, i_min, e_rem, j_lit, j_i, Int.reduceToNat, Int.reduceAdd, Int.reduceSub, Int.reduceMul, Int.reduceNeg, Int.reduceLT, Int.reduceLE, Int.reduceEq, gd_t, gd_T, ↓bd_m, ↓on_m, ↓ec_m, ↓reduceIte, if_true, if_false, true_and, and_true, false_and, and_false, true_or, or_true, false_or, or_false, Bool.false_eq_true, b2i_0, b2i_1, bl_0, bl_1, bl_b2, not_true_eq_false, not_false_eq_true, B_X1_mustBeTwo_22, cs.k, s1, s2, qT, right_t]
        · have e1 := isStation_eq t hn4 h1
          have e2 := isStation_eq t hn4 h2
          rw [b2_t q1] at e1
          rw [b2_t q2] at e2
          unfold F_X8_pairFault
          simp (disch := omega) only [i_lit, i_neg, i_add, i_sub, i_mul, i_ofNat, i_div, i_le, i_lt, i_eq, i_ix, i_inb, i_max, i_min, e_rem, j_lit, j_i, Int.reduceToNat, Int.reduceAdd, Int.reduceSub, Int.reduceMul, Int.reduceNeg, Int.reduceLT, Int.reduceLE, Int.reduceEq, gd_t, gd_T, ↓bd_m, ↓on_m, ↓ec_m, ↓reduceIte, if_true, if_false, true_and, and_true, false_and, and_false, true_or, or_true, false_or, or_false, Bool.false_eq_true, b2i_0, b2i_1, bl_0, bl_1, bl_b2, not_true_eq_false, not_false_eq_true, B_X8_pairFault_30, t.s.k, e1, e2, qT]
    · refine Or.inr (Or.inl ⟨?_, fun g t => ?_⟩)
      · unfold F_X1_mustBeTwo
        simp (disch := omega) only [i_lit, i_neg, i_add, i_sub, i_mul, i_ofNat, i_div, i_le, i_lt, i_eq, i_ix, i_inb, i_max, i_min, e_rem, j_lit, j_i, Int.reduceToNat, Int.reduceAdd, Int.reduceSub, Int.reduceMul, Int.reduceNeg, Int.reduceLT, Int.reduceLE, Int.reduceEq, gd_t, gd_T, ↓bd_m, ↓on_m, ↓ec_m, ↓reduceIte, if_true, if_false, true_and, and_true, false_and, and_false, true_or, or_true, false_or, or_false, Bool.false_eq_true, b2i_0, b2i_1, bl_0, bl_1, bl_b2, not_true_eq_false, not_false_eq_true, cs.k, s1, stationOf_f c cs hz h2 q2 gr]
      · have e1 := isStation_eq t hn4 h1
        have e2 := isStation_eq t hn4 h2
        rw [b2_t q1] at e1
        rw [b2_f q2] at e2
        unfold F_X8_pairFault
        simp (disch := omega) only [i_lit, i_neg, i_add, i_sub, i_mul, i_ofNat, i_div, i_le, i_lt, i_eq, i_ix, i_inb, i_max, i_min, e_rem, j_lit, j_i, Int.reduceToNat, Int.reduceAdd, Int.reduceSub, Int.reduceMul, Int.reduceNeg, Int.reduceLT, Int.reduceLE, Int.reduceEq, gd_t, gd_T, ↓bd_m, ↓on_m, ↓ec_m, ↓reduceIte, if_true, if_false, true_and, and_true, false_and, and_false, true_or, or_true, false_or, or_false, Bool.false_eq_true, b2i_0, b2i_1, bl_0, bl_1, bl_b2, not_true_eq_false, not_false_eq_true, B_X8_pairFault_30, B_X8_pairFault_16, t.s.k, e1, e2]
  · refine Or.inr (Or.inl ⟨?_, fun g t => ?_⟩)
    · unfold F_X1_mustBeTwo
      simp (disch := omega) only [i_lit, i_neg, i_add, i_sub, i_mul, i_ofNat, i_div, i_le, i_lt, i_eq, i_ix, i_inb, i_max, i_min, e_rem, j_lit, j_i, Int.reduceToNat, Int.reduceAdd, Int.reduceSub, Int.reduceMul, Int.reduceNeg, Int.reduceLT, Int.reduceLE, Int.reduceEq, gd_t, gd_T, ↓bd_m, ↓on_m, ↓ec_m, ↓reduceIte, if_true, if_false, true_and, and_true, false_and, and_false, true_or, or_true, false_or, or_false, Bool.false_eq_true, b2i_0, b2i_1, bl_0, bl_1, bl_b2, not_true_eq_false, not_false_eq_true, cs.k, stationOf_f c cs hz h1 q1 gr]
    · have e1 := isStation_eq t hn4 h1
      rw [b2_f q1] at e1
      unfold F_X8_pairFault
      simp (disch := omega) only [i_lit, i_neg, i_add, i_sub, i_mul, i_ofNat, i_div, i_le, i_lt, i_eq, i_ix, i_inb, i_max, i_min, e_rem, j_lit, j_i, Int.reduceToNat, Int.reduceAdd, Int.reduceSub, Int.reduceMul, Int.reduceNeg, Int.reduceLT, Int.reduceLE, Int.reduceEq, gd_t, gd_T, ↓bd_m, ↓on_m, ↓ec_m, ↓reduceIte, if_true, if_false, true_and, and_true, false_and, and_false, true_or, or_true, false_or, or_false, Bool.false_eq_true, b2i_0, b2i_1, bl_0, bl_1, bl_b2, not_true_eq_false, not_false_eq_true, B_X8_pairFault_30, B_X8_pairFault_16, t.s.k, e1]
theorem isLevel_eq {h : AH} {m : Nat} {τ : Nat → Int} (t : TN h m τ) (rg : RG τ) {x : Int} (hx : i31 x) : F_X8_isLevel h m (iI x) = some (b2 (0 ≤ x ∧ x ≤ τ 3 - 1)) := by
  have ts := t.s
  have ti := t.i
  have hl8 := rg.l
  unfold F_X8_isLevel
  simp (disch := omega) only [i_lit, i_neg, i_add, i_sub, i_mul, i_ofNat, i_div, i_le, i_lt, i_eq, i_ix, i_inb, i_max, i_min, e_rem, j_lit, j_i, Int.reduceToNat, Int.reduceAdd, Int.reduceSub, Int.reduceMul, Int.reduceNeg, Int.reduceLT, Int.reduceLE, Int.reduceEq, gd_t, gd_T, ↓bd_m, ↓lh_t, ↓on_m, ↓ec_m, ↓reduceIte, if_true, if_false, true_and, and_true, false_and, and_false, true_or, or_true, false_or, or_false, Bool.false_eq_true, b2i_0, b2i_1, bl_0, bl_1, bl_b2, not_true_eq_false, not_false_eq_true, ts.k, ts.r1, ts.k1, ts.l1, ts.r2, ts.k2, ts.l2, ts.r3, ts.k3, ts.l3, ts.r4, ts.k4, ts.l4, ts.r5, ts.k5, ts.l5, ts.r6, ts.k6, ts.l6, ts.r7, ts.k7, ts.l7, ts.r8, ts.k8, ts.l8, ts.r9, ts.k9, ts.l9, ts.r10, ts.k10, ts.l10, ts.r11, ts.k11, ts.l11, ts.r12, ts.k12, ts.l12, ts.r13, ts.k13, ts.l13, ts.r14, ts.k14, ts.l14, ts.r15, ts.k15, ts.l15, ts.r16, ts.k16, ts.l16, ts.r17, ts.k17, ts.l17, ts.r18, ts.k18, ts.l18, ts.r19, ts.k19, ts.l19, ts.r20, ts.k20, ts.l20, ti, within_eq]
theorem mustBeLevel_t {o : Nat → Nat} {hC hT : AH} {z m x : Nat} {τ : Nat → Int} {υ : Nat → Int64} {e : Nat → Nat} {el : Nat → Nat → Nat} {lw : Nat} (r : RL o hC hT z m x τ υ e el lw) {j : Int} (q : 0 ≤ j ∧ j ≤ τ 3 - 1) : F_X1_mustBeLevel hC z (iI j) = some (.inl ((), hC)) := by
  have c := r.c
  have hl8 := c.rg.l
  have e1 := isIn_eq hC (a := j) (b := 0) (c := τ 3 - 1) (by omega) (by omega) (by omega)
  rw [b2_t q] at e1
  unfold F_X1_mustBeLevel
  simp (disch := omega) only [i_lit, i_neg, i_add, i_sub, i_mul, i_ofNat, i_div, i_le, i_lt, i_eq, i_ix, i_inb, i_max, i_min, e_rem, j_lit, j_i, Int.reduceToNat, Int.reduceAdd, Int.reduceSub, Int.reduceMul, Int.reduceNeg, Int.reduceLT, Int.reduceLE, Int.reduceEq, gd_t, gd_T, ↓bd_m, ↓on_m, ↓ec_m, ↓reduceIte, if_true, if_false, true_and, and_true, false_and, and_false, true_or, or_true, false_or, or_false, Bool.false_eq_true, b2i_0, b2i_1, bl_0, bl_1, bl_b2, not_true_eq_false, not_false_eq_true, r.cs.k, r.hz, c.k, c.i10, e1, within_t]
theorem mustBeLevel_f {o : Nat → Nat} {hC hT : AH} {z m x : Nat} {τ : Nat → Int} {υ : Nat → Int64} {e : Nat → Nat} {el : Nat → Nat → Nat} {lw : Nat} (r : RL o hC hT z m x τ υ e el lw) (gr : 1 ≤ hc hC ∧ 6 ≤ hs hC) {j : Int} (hj : i31 j) (q : ¬ (0 ≤ j ∧ j ≤ τ 3 - 1)) : F_X1_mustBeLevel hC z (iI j) = some (.inr (4, hn hC, nw hC 0 0 6)) := by
  have c := r.c
  have hl8 := c.rg.l
  have e1 := isIn_eq hC (a := j) (b := 0) (c := τ 3 - 1) (by omega) (by omega) (by omega)
  rw [b2_f q] at e1
  unfold F_X1_mustBeLevel
  simp (disch := omega) only [i_lit, i_neg, i_add, i_sub, i_mul, i_ofNat, i_div, i_le, i_lt, i_eq, i_ix, i_inb, i_max, i_min, e_rem, j_lit, j_i, Int.reduceToNat, Int.reduceAdd, Int.reduceSub, Int.reduceMul, Int.reduceNeg, Int.reduceLT, Int.reduceLE, Int.reduceEq, gd_t, gd_T, ↓bd_m, ↓on_m, ↓ec_m, ↓reduceIte, if_true, if_false, true_and, and_true, false_and, and_false, true_or, or_true, false_or, or_false, Bool.false_eq_true, b2i_0, b2i_1, bl_0, bl_1, bl_b2, not_true_eq_false, not_false_eq_true, r.cs.k, r.hz, c.k, c.i10, e1, within_f gr]
