/-! PURE GF: turns, all of them; turn, gains -/
set_option maxRecDepth 100000
theorem lp_end {σ α : Type} {body : (σ → Option α) → σ → Option α} {E : Option α → Prop} (I : σ → Nat → Prop) (hstep : ∀ (self : σ → Option α) (s : σ) (k : Nat), I s k → (∀ s' k', k' < k → I s' k' → E (self s')) → E (body self s)) : ∀ (n k : Nat) (s : σ), I s k → k < n → E (lp body n s) := by
  intro n
  induction n with
  | zero => intro k s _ h; exact absurd h (Nat.not_lt_zero _)
  | succ n ih =>
    intro k s hI hk
    exact hstep (lp body n) s k hI (fun s' k' h' hI' => ih k' s' hI' (by omega))
theorem fore0 {g0 : AH} {z x : Nat} {n : Int} {A B : Nat → Nat → Int} (GC : GTC g0 z x n A B) (hx : ¬ (z + 269 ≤ x ∧ x ≤ z + 495)) {h : Nat} (hh : 1 ≤ h ∧ h ≤ 40) {β : Type} {Y : Option β} {R : AH → β → Prop} (H : ∀ g', tf (SP z) g0 g' → (∀ l : Nat, (l : Int) < n → hJ g' (z + 337 + h) l = jI 0 ∧ hJ g' (z + 379 + h) l = jI 0) → Ok2 (G_X1_foresees_41 g' z (iI (h - 1))) Y R) : Ok2 (F_X1_foresees g0 z (iI h)) Y R := by
  have n8 := GC.2.2.2.2.1
  unfold F_X1_foresees G_X1_foresees_2
  refine lp_end (E := fun X => Ok2 X Y R) (fun s k => ∃ (g : AH) (i : Nat), s = (g, z, iI h, iI i) ∧ (i : Int) ≤ n ∧ k = (n - i).toNat ∧ tf (SP z) g0 g ∧ ∀ l : Nat, l < i → hJ g (z + 337 + h) l = jI 0 ∧ hJ g (z + 379 + h) l = jI 0) ?_ fuel n.toNat _ ⟨g0, 0, rfl, by omega, by omega, tf.rfl, fun l hl => by omega⟩ (lt_fuel (by omega))
  rintro self s k ⟨g, i, rfl, h1, rfl, T1, f1⟩ ih
  obtain ⟨cs, hz, kx, ix_, -, tb⟩ := GC.fr hx T1
  unfold L_X1_foresees_2
  by_cases ho : n ≤ (i : Int)
  · simp (disch := omega) only [i_lit, i_neg, i_add, i_sub, i_mul, i_ofNat, i_div, i_le, i_lt, i_eq, i_ix, i_inb, i_max, i_min, e_rem, j_lit, j_i, Int.reduceToNat, Int.reduceAdd, Int.reduceSub, Int.reduceMul, Int.reduceNeg, Int.reduceLT, Int.reduceLE, Int.reduceEq, gd_t, gd_T, ↓bd_m, ↓on_m, ↓ec_m, ↓reduceIte, if_true, if_false, true_and, and_true, false_and, and_false, true_or, or_true, false_or, or_false, Bool.false_eq_true, b2i_0, b2i_1, bl_0, bl_1, bl_b2, not_true_eq_false, not_false_eq_true, B_X1_foresees_2, B_X1_foresees_37, cs.k, hz, kx, ix_, ho]
    exact H g T1 (fun l hl => f1 l (by omega))
  · have wM := cs.w336 h (by omega)
    have SM : SP z (z + 337 + h) := by unfold SP; omega
    have SH : SP z (z + 379 + h) := by unfold SP; omega
    simp (disch := omega) only [i_lit, i_neg, i_add, i_sub, i_mul, i_ofNat, i_div, i_le, i_lt, i_eq, i_ix, i_inb, i_max, i_min, e_rem, j_lit, j_i, Int.reduceToNat, Int.reduceAdd, Int.reduceSub, Int.reduceMul, Int.reduceNeg, Int.reduceLT, Int.reduceLE, Int.reduceEq, gd_t, gd_T, ↓bd_m, ↓on_m, ↓ec_m, ↓reduceIte, if_true, if_false, true_and, and_true, false_and, and_false, true_or, or_true, false_or, or_false, Bool.false_eq_true, b2i_0, b2i_1, bl_0, bl_1, bl_b2, not_true_eq_false, not_false_eq_true, B_X1_foresees_2, cs.k, hz, kx, ix_, ho, cs.r336, cs.k336, cs.l336, wM.1, wM.2.1, wM.2.2, Int.toNat_natCast]
    refine fwLJ T1 SM (fun g2 T2 u2 d2 i2 => ?_)
    have cs2 := (GC.fr hx T2).1
    have wH := cs2.w378 h (by omega)
    simp (disch := omega) only [i_lit, i_neg, i_add, i_sub, i_mul, i_ofNat, i_div, i_le, i_lt, i_eq, i_ix, i_inb, i_max, i_min, e_rem, j_lit, j_i, Int.reduceToNat, Int.reduceAdd, Int.reduceSub, Int.reduceMul, Int.reduceNeg, Int.reduceLT, Int.reduceLE, Int.reduceEq, gd_t, gd_T, ↓bd_m, ↓on_m, ↓ec_m, ↓reduceIte, if_true, if_false, true_and, and_true, false_and, and_false, true_or, or_true, false_or, or_false, Bool.false_eq_true, b2i_0, b2i_1, bl_0, bl_1, bl_b2, not_true_eq_false, not_false_eq_true, B_X1_foresees_22, cs2.k, cs2.r378, cs2.k378, cs2.l378, wH.1, wH.2.1, wH.2.2, Int.toNat_natCast]
    refine fwLJ T2 SH (fun g3 T3 u3 d3 i3 => ?_)
    have nx := ih (g3, z, iI h, iI ((i + 1 : Nat) : Int)) (n - ((i + 1 : Nat) : Int)).toNat (by omega) ⟨g3, i + 1, rfl, by omega, rfl, T3, fun l hl => ?_⟩
    · rw [show (((i + 1 : Nat)) : Int) = (i : Int) + 1 by omega] at nx
      simp (disch := omega) only [i_lit, i_neg, i_add, i_sub, i_mul, i_ofNat, i_div, i_le, i_lt, i_eq, i_ix, i_inb, i_max, i_min, e_rem, j_lit, j_i, Int.reduceToNat, Int.reduceAdd, Int.reduceSub, Int.reduceMul, Int.reduceNeg, Int.reduceLT, Int.reduceLE, Int.reduceEq, gd_t, gd_T, ↓bd_m, ↓on_m, ↓ec_m, ↓reduceIte, if_true, if_false, true_and, and_true, false_and, and_false, true_or, or_true, false_or, or_false, Bool.false_eq_true, b2i_0, b2i_1, bl_0, bl_1, bl_b2, not_true_eq_false, not_false_eq_true, B_X1_foresees_31]
      exact nx
    · by_cases q : l = i
      · subst q
        exact ⟨by rw [d3 _ _ (by omega)]; exact u2, u3⟩
      · have := f1 l (by omega)
        rw [d3 _ _ (by omega), d2 _ _ (by omega), d3 _ _ (by omega), d2 _ _ (by omega)]
        exact this
theorem lay0 {g0 : AH} {m : Nat} {τ : Nat → Int} {A B : Nat → Nat → Int} (GT : GTT g0 m τ A B) {h : Nat} (hh : 1 ≤ h ∧ h ≤ 40) {β : Type} {X : Option β} {R : β → AH → Prop} (H : ∀ g', tf (QP m) g0 g' → (∀ l : Nat, l < 8 → hJ g' (m + 14) (8 * h + l) = jI 0 ∧ hJ g' (m + 15) (8 * h + l) = jI 0) → Ok2 X (G_X8_layTurns_53 g' m (iI (h - 1))) R) : Ok2 X (G_X8_layTurns_9 g0 m (iI h) (iI 0)) R := by
  unfold G_X8_layTurns_9
  refine lp_end (E := fun Y => Ok2 X Y R) (fun s k => ∃ (g : AH) (i : Nat), s = (g, m, iI h, iI i) ∧ i ≤ 8 ∧ k = 8 - i ∧ tf (QP m) g0 g ∧ ∀ l : Nat, l < i → hJ g (m + 14) (8 * h + l) = jI 0 ∧ hJ g (m + 15) (8 * h + l) = jI 0) ?_ fuel 8 _ ⟨g0, 0, rfl, by omega, by omega, tf.rfl, fun l hl => by omega⟩ (lt_fuel (by omega))
  rintro self s k ⟨g, i, rfl, h1, rfl, T1, f1⟩ ih
  have ts := (GT.fr T1).1.s
  unfold L_X8_layTurns_9
  by_cases ho : 8 ≤ (i : Int)
  · simp (disch := omega) only [i_lit, i_neg, i_add, i_sub, i_mul, i_ofNat, i_div, i_le, i_lt, i_eq, i_ix, i_inb, i_max, i_min, e_rem, j_lit, j_i, Int.reduceToNat, Int.reduceAdd, Int.reduceSub, Int.reduceMul, Int.reduceNeg, Int.reduceLT, Int.reduceLE, Int.reduceEq, gd_t, gd_T, ↓bd_m, ↓on_m, ↓ec_m, ↓reduceIte, if_true, if_false, true_and, and_true, false_and, and_false, true_or, or_true, false_or, or_false, Bool.false_eq_true, b2i_0, b2i_1, bl_0, bl_1, bl_b2, not_true_eq_false, not_false_eq_true, B_X8_layTurns_9, B_X8_layTurns_48, ho]
    exact H g T1 (fun l hl => f1 l (by omega))
  · have y2 : (8 * (h : Int) + (i : Int)).toNat = 8 * h + i := by omega
    have Q14 : QP m (m + 14) := by unfold QP; omega
    have Q15 : QP m (m + 15) := by unfold QP; omega
    simp (disch := omega) only [i_lit, i_neg, i_add, i_sub, i_mul, i_ofNat, i_div, i_le, i_lt, i_eq, i_ix, i_inb, i_max, i_min, e_rem, j_lit, j_i, Int.reduceToNat, Int.reduceAdd, Int.reduceSub, Int.reduceMul, Int.reduceNeg, Int.reduceLT, Int.reduceLE, Int.reduceEq, gd_t, gd_T, ↓bd_m, ↓on_m, ↓ec_m, ↓reduceIte, if_true, if_false, true_and, and_true, false_and, and_false, true_or, or_true, false_or, or_false, Bool.false_eq_true, b2i_0, b2i_1, bl_0, bl_1, bl_b2, not_true_eq_false, not_false_eq_true, B_X8_layTurns_9, ts.k, ts.r1, ts.k1, ts.l1, ts.r2, ts.k2, ts.l2, ts.r3, ts.k3, ts.l3, ts.r4, ts.k4, ts.l4, ts.r5, ts.k5, ts.l5, ts.r6, ts.k6, ts.l6, ts.r7, ts.k7, ts.l7, ts.r8, ts.k8, ts.l8, ts.r9, ts.k9, ts.l9, ts.r10, ts.k10, ts.l10, ts.r11, ts.k11, ts.l11, ts.r12, ts.k12, ts.l12, ts.r13, ts.k13, ts.l13, ts.r14, ts.k14, ts.l14, ts.r15, ts.k15, ts.l15, ts.r16, ts.k16, ts.l16, ts.r17, ts.k17, ts.l17, ts.r18, ts.k18, ts.l18, ts.r19, ts.k19, ts.l19, ts.r20, ts.k20, ts.l20, ho, y2]
    refine fwRJ T1 Q14 (fun g2 T2 u2 d2 i2 => ?_)
    have ts2 := (GT.fr T2).1.s
    simp (disch := omega) only [i_lit, i_neg, i_add, i_sub, i_mul, i_ofNat, i_div, i_le, i_lt, i_eq, i_ix, i_inb, i_max, i_min, e_rem, j_lit, j_i, Int.reduceToNat, Int.reduceAdd, Int.reduceSub, Int.reduceMul, Int.reduceNeg, Int.reduceLT, Int.reduceLE, Int.reduceEq, gd_t, gd_T, ↓bd_m, ↓on_m, ↓ec_m, ↓reduceIte, if_true, if_false, true_and, and_true, false_and, and_false, true_or, or_true, false_or, or_false, Bool.false_eq_true, b2i_0, b2i_1, bl_0, bl_1, bl_b2, not_true_eq_false, not_false_eq_true, B_X8_layTurns_29, ts2.k, ts2.r1, ts2.k1, ts2.l1, ts2.r2, ts2.k2, ts2.l2, ts2.r3, ts2.k3, ts2.l3, ts2.r4, ts2.k4, ts2.l4, ts2.r5, ts2.k5, ts2.l5, ts2.r6, ts2.k6, ts2.l6, ts2.r7, ts2.k7, ts2.l7, ts2.r8, ts2.k8, ts2.l8, ts2.r9, ts2.k9, ts2.l9, ts2.r10, ts2.k10, ts2.l10, ts2.r11, ts2.k11, ts2.l11, ts2.r12, ts2.k12, ts2.l12, ts2.r13, ts2.k13, ts2.l13, ts2.r14, ts2.k14, ts2.l14, ts2.r15, ts2.k15, ts2.l15, ts2.r16, ts2.k16, ts2.l16, ts2.r17, ts2.k17, ts2.l17, ts2.r18, ts2.k18, ts2.l18, ts2.r19, ts2.k19, ts2.l19, ts2.r20, ts2.k20, ts2.l20, y2]
    refine fwRJ T2 Q15 (fun g3 T3 u3 d3 i3 => ?_)
    have nx := ih (g3, m, iI h, iI ((i + 1 : Nat) : Int)) (8 - (i + 1)) (by omega) ⟨g3, i + 1, rfl, by omega, rfl, T3, fun l hl => ?_⟩
    · rw [show (((i + 1 : Nat)) : Int) = (i : Int) + 1 by omega] at nx
      simp (disch := omega) only [i_lit, i_neg, i_add, i_sub, i_mul, i_ofNat, i_div, i_le, i_lt, i_eq, i_ix, i_inb, i_max, i_min, e_rem, j_lit, j_i, Int.reduceToNat, Int.reduceAdd, Int.reduceSub, Int.reduceMul, Int.reduceNeg, Int.reduceLT, Int.reduceLE, Int.reduceEq, gd_t, gd_T, ↓bd_m, ↓on_m, ↓ec_m, ↓reduceIte, if_true, if_false, true_and, and_true, false_and, and_false, true_or, or_true, false_or, or_false, Bool.false_eq_true, b2i_0, b2i_1, bl_0, bl_1, bl_b2, not_true_eq_false, not_false_eq_true, B_X8_layTurns_42]
      exact nx
    · by_cases q : l = i
      · subst q
        exact ⟨by rw [d3 _ _ (by omega)]; exact u2, u3⟩
      · have := f1 l (by omega)
        rw [d3 _ _ (by omega), d2 _ _ (by omega), d3 _ _ (by omega), d2 _ _ (by omega)]
        exact this
/-- rows from s on are told alike -/
def TRs (g gT : AH) (z m : Nat) (n : Int) (h s : Nat) : Prop := (∀ t l : Nat, s ≤ t → t ≤ h → (l : Int) < n → TRw g gT z m t l) ∧ ∀ t l : Nat, s ≤ t → t < h → (l : Int) < n → CHw g gT z m n t l
theorem pAB (m t : Nat) : (pA m t = m + 14 ∨ pA m t = m + 15) ∧ (pB m t = m + 14 ∨ pB m t = m + 15) := by
  unfold pA pB
  split
  · exact ⟨Or.inl rfl, Or.inr rfl⟩
  · exact ⟨Or.inr rfl, Or.inl rfl⟩
theorem turns_run {g0 gT0 : AH} {z x m : Nat} {τ : Nat → Int} {A B : Nat → Nat → Int} (GC : GTC g0 z x (τ 3) A B) (GT : GTT gT0 m τ A B) (bA : bdd (τ 3) A) (bB : bdd (τ 3) B) (hx : ¬ (z + 269 ≤ x ∧ x ≤ z + 495)) (hn1 : 1 ≤ τ 3) {h : Nat} (hh : 1 ≤ h ∧ h ≤ 40) : Ok2 (F_X1_foresees g0 z (iI h)) (G_X8_layTurns_9 gT0 m (iI h) (iI 0)) (fun g gT => tf (SP z) g0 g ∧ tf (QP m) gT0 gT ∧ TRs g gT z m (τ 3) h 0) := by
  have hl8 := GT.2.1
  refine fore0 GC hx hh (fun g1 T1 f1 => lay0 GT hh (fun gT1 T2 f2 => ?_))
  have R0 : TRs g1 gT1 z m (τ 3) h h := by
    refine ⟨fun t l h1 h2 h3 => ?_, fun t l h1 h2 => by omega⟩
    rw [show t = h by omega]
    have a1 := f1 l h3
    have a2 := f2 l (by omega)
    unfold TRw
    rcases pAB m h with ⟨p | p, q | q⟩ <;> rw [p, q, a1.1, a1.2] <;> simp only [a2.1, a2.2, and_self]
  clear f1 f2
  unfold G_X1_foresees_41 G_X8_layTurns_53
  refine lp_ok2 (fun s u k => ∃ (g gT : AH) (t : Nat), s = (g, z, iI ((t : Int) - 1)) ∧ u = (gT, m, iI ((t : Int) - 1)) ∧ t ≤ h ∧ k = t ∧ tf (SP z) g0 g ∧ tf (QP m) gT0 gT ∧ TRs g gT z m (τ 3) h t) ?_ fuel h _ _ ⟨g1, gT1, h, rfl, rfl, by omega, rfl, T1, T2, R0⟩ (lt_fuel (by omega))
  clear R0 T1 T2
  rintro s1 s2 s u k ⟨g, gT, t, rfl, rfl, h1, hkt, T1, T2, R1⟩ ih
  unfold L_X1_foresees_41 L_X8_layTurns_53
  by_cases ht : t = 0
  · subst ht
    simp (disch := omega) only [i_lit, i_neg, i_add, i_sub, i_mul, i_ofNat, i_div, i_le, i_lt, i_eq, i_ix, i_inb, i_max, i_min, e_rem, j_lit, j_i, Int.reduceToNat, Int.reduceAdd, Int.reduceSub, Int.reduceMul, Int.reduceNeg, Int.reduceLT, Int.reduceLE, Int.reduceEq, gd_t, gd_T, ↓bd_m, ↓on_m, ↓ec_m, ↓reduceIte, if_true, if_false, true_and, and_true, false_and, and_false, true_or, or_true, false_or, or_false, Bool.false_eq_true, b2i_0, b2i_1, bl_0, bl_1, bl_b2, not_true_eq_false, not_false_eq_true, B_X1_foresees_41, B_X8_layTurns_53, Int.natCast_zero]
    exact Ok2.some ⟨T1, T2, R1⟩
  · obtain ⟨t, rfl⟩ : ∃ t', t = t' + 1 := ⟨t - 1, by omega⟩
    have e0 : (((t + 1 : Nat)) : Int) - 1 = (t : Int) := by omega
    have ng : ((t : Int) < 0) = False := eq_false (by omega)
    simp (disch := omega) only [i_lit, i_neg, i_add, i_sub, i_mul, i_ofNat, i_div, i_le, i_lt, i_eq, i_ix, i_inb, i_max, i_min, e_rem, j_lit, j_i, Int.reduceToNat, Int.reduceAdd, Int.reduceSub, Int.reduceMul, Int.reduceNeg, Int.reduceLT, Int.reduceLE, Int.reduceEq, gd_t, gd_T, ↓bd_m, ↓on_m, ↓ec_m, ↓reduceIte, if_true, if_false, true_and, and_true, false_and, and_false, true_or, or_true, false_or, or_false, Bool.false_eq_true, b2i_0, b2i_1, bl_0, bl_1, bl_b2, not_true_eq_false, not_false_eq_true, B_X1_foresees_41, B_X8_layTurns_53, e0, ng]
    have ih' := fun g' gT' a1 a2 a3 => ih (g', z, iI ((t : Int) - 1)) (gT', m, iI ((t : Int) - 1)) t (by omega) ⟨g', gT', t, rfl, rfl, by omega, rfl, a1, a2, a3⟩
    clear ih
    unfold G_X1_foresees_47 G_X8_layTurns_61
    refine lp_ok2 (fun s u k => ∃ (g gT : AH) (l : Nat), s = (g, z, iI t, iI l) ∧ u = (gT, m, iI t, iI l) ∧ (l : Int) ≤ τ 3 ∧ k = (τ 3 - l).toNat ∧ tf (SP z) g0 g ∧ tf (QP m) gT0 gT ∧ TRs g gT z m (τ 3) h (t + 1) ∧ ∀ l' : Nat, l' < l → TRw g gT z m t l' ∧ CHw g gT z m (τ 3) t l') ?_ fuel (τ 3).toNat _ _ ⟨g, gT, 0, rfl, rfl, by omega, by omega, T1, T2, R1, fun l' hl' => by omega⟩ (lt_fuel (by omega))
    clear T1 T2 R1
    rintro s1 s2 s u k ⟨g, gT, l, rfl, rfl, h2, rfl, T1, T2, R1, R2⟩ ih
    have GC1 := GC.fr hx T1
    have GT1 := GT.fr T2
    have GC2 := GC1
    obtain ⟨cs, hz, kx, ix_, -, tb⟩ := GC1
    have ts := GT1.1.s
    have ti := GT1.1.i
    unfold L_X1_foresees_47 L_X8_layTurns_61
    by_cases ho : τ 3 ≤ (l : Int)
    · simp (disch := omega) only [i_lit, i_neg, i_add, i_sub, i_mul, i_ofNat, i_div, i_le, i_lt, i_eq, i_ix, i_inb, i_max, i_min, e_rem, j_lit, j_i, Int.reduceToNat, Int.reduceAdd, Int.reduceSub, Int.reduceMul, Int.reduceNeg, Int.reduceLT, Int.reduceLE, Int.reduceEq, gd_t, gd_T, ↓bd_m, ↓on_m, ↓ec_m, ↓reduceIte, if_true, if_false, true_and, and_true, false_and, and_false, true_or, or_true, false_or, or_false, Bool.false_eq_true, b2i_0, b2i_1, bl_0, bl_1, bl_b2, not_true_eq_false, not_false_eq_true, B_X1_foresees_47, B_X1_foresees_228, B_X8_layTurns_61, B_X8_layTurns_287, cs.k, hz, kx, ix_, ts.k, ts.r1, ts.k1, ts.l1, ts.r2, ts.k2, ts.l2, ts.r3, ts.k3, ts.l3, ts.r4, ts.k4, ts.l4, ts.r5, ts.k5, ts.l5, ts.r6, ts.k6, ts.l6, ts.r7, ts.k7, ts.l7, ts.r8, ts.k8, ts.l8, ts.r9, ts.k9, ts.l9, ts.r10, ts.k10, ts.l10, ts.r11, ts.k11, ts.l11, ts.r12, ts.k12, ts.l12, ts.r13, ts.k13, ts.l13, ts.r14, ts.k14, ts.l14, ts.r15, ts.k15, ts.l15, ts.r16, ts.k16, ts.l16, ts.r17, ts.k17, ts.l17, ts.r18, ts.k18, ts.l18, ts.r19, ts.k19, ts.l19, ts.r20, ts.k20, ts.l20, ti, ho]
      rw [← Int.sub_eq_add_neg]
      refine ih' g gT T1 T2 ⟨fun t' l' q1 q2 q3 => ?_, fun t' l' q1 q2 q3 => ?_⟩
      · by_cases q : t' = t
        · subst q; exact (R2 l' (by omega)).1
        · exact R1.1 t' l' (by omega) q2 q3
      · by_cases q : t' = t
        · subst q; exact (R2 l' (by omega)).2
        · exact R1.2 t' l' (by omega) q2 q3
    · have hl : (l : Int) < τ 3 := by omega
      have fin : ∀ g' gT', tf (SP z) g g' → tf (QP m) gT gT' → (∀ c k, ¬ (c = z + 295 + t ∧ k = l) → hI g' c k = hI g c k) → (∀ c k, ¬ ((c = z + 337 + t ∨ c = z + 379 + t) ∧ k = l) → hJ g' c k = hJ g c k) → (∀ c k, ¬ (c = m + 13 ∧ k = 8 * t + l) → hI gT' c k = hI gT c k) → (∀ c k, ¬ ((c = m + 14 ∨ c = m + 15) ∧ k = 8 * t + l) → hJ gT' c k = hJ gT c k) → TRw g' gT' z m t l → CHw g' gT' z m (τ 3) t l → Ok2 (s1 (g', z, iI t, iI (l + 1))) (s2 (gT', m, iI t, iI (l + 1))) (fun g gT => tf (SP z) g0 g ∧ tf (QP m) gT0 gT ∧ TRs g gT z m (τ 3) h 0) := by
        intro g' gT' U1 U2 a1 a2 a3 a4 a5 a6
        have keepT : ∀ t' l' : Nat, ¬ (t' = t ∧ l' = l) → t' ≤ 40 → (l' : Int) < τ 3 → TRw g gT z m t' l' → TRw g' gT' z m t' l' := by
          intro t' l' q1 q2 q3 w
          unfold TRw at w ⊢
          rw [a2 _ _ (by omega), a2 _ _ (by omega), a4 _ _ (by omega), a4 _ _ (by omega)]
          exact w
        have keepC : ∀ t' l' : Nat, ¬ (t' = t ∧ l' = l) → t' ≤ 40 → (l' : Int) < τ 3 → CHw g gT z m (τ 3) t' l' → CHw g' gT' z m (τ 3) t' l' := by
          intro t' l' q1 q2 q3 w
          unfold CHw at w ⊢
          rw [a1 _ _ (by omega), a3 _ _ (by omega)]
          exact w
        have nx := ih (g', z, iI t, iI ((l + 1 : Nat) : Int)) (gT', m, iI t, iI ((l + 1 : Nat) : Int)) (τ 3 - ((l + 1 : Nat) : Int)).toNat (by omega) ⟨g', gT', l + 1, rfl, rfl, by omega, rfl, T1.trans U1, T2.trans U2, ⟨fun t' l' q1 q2 q3 => keepT t' l' (by omega) (by omega) q3 (R1.1 t' l' q1 q2 q3), fun t' l' q1 q2 q3 => keepC t' l' (by omega) (by omega) q3 (R1.2 t' l' q1 q2 q3)⟩, fun l' hl' => ?_⟩
        · rw [show (((l + 1 : Nat)) : Int) = (l : Int) + 1 by omega] at nx
          exact nx
        · by_cases q : l' = l
          · subst q
            exact ⟨a5, a6⟩
          · have := R2 l' (by omega)
            exact ⟨keepT t l' (by omega) (by omega) (by omega) this.1, keepC t l' (by omega) (by omega) (by omega) this.2⟩
      by_cases par : t % 2 = 0
      · have pT : ((t : Int) % 2 = 0) = True := eq_true (by omega)
        simp (disch := omega) only [i_lit, i_neg, i_add, i_sub, i_mul, i_ofNat, i_div, i_le, i_lt, i_eq, i_ix, i_inb, i_max, i_min, e_rem, j_lit, j_i, Int.reduceToNat, Int.reduceAdd, Int.reduceSub, Int.reduceMul, Int.reduceNeg, Int.reduceLT, Int.reduceLE, Int.reduceEq, gd_t, gd_T, ↓bd_m, ↓on_m, ↓ec_m, ↓reduceIte, if_true, if_false, true_and, and_true, false_and, and_false, true_or, or_true, false_or, or_false, Bool.false_eq_true, b2i_0, b2i_1, bl_0, bl_1, bl_b2, not_true_eq_false, not_false_eq_true, B_X1_foresees_47, B_X8_layTurns_61, B_X8_layTurns_94, cs.k, hz, kx, ix_, ts.k, ts.r1, ts.k1, ts.l1, ts.r2, ts.k2, ts.l2, ts.r3, ts.k3, ts.l3, ts.r4, ts.k4, ts.l4, ts.r5, ts.k5, ts.l5, ts.r6, ts.k6, ts.l6, ts.r7, ts.k7, ts.l7, ts.r8, ts.k8, ts.l8, ts.r9, ts.k9, ts.l9, ts.r10, ts.k10, ts.l10, ts.r11, ts.k11, ts.l11, ts.r12, ts.k12, ts.l12, ts.r13, ts.k13, ts.l13, ts.r14, ts.k14, ts.l14, ts.r15, ts.k15, ts.l15, ts.r16, ts.k16, ts.l16, ts.r17, ts.k17, ts.l17, ts.r18, ts.k18, ts.l18, ts.r19, ts.k19, ts.l19, ts.r20, ts.k20, ts.l20, ti, ho, pT]
        exact turn_x GC2 GT1 bA bB hx hn1 (by omega) hl (fun l' hl' => R1.1 (t + 1) l' (by omega) (by omega) hl') fin (by rw [if_pos par])
      · have pT : ((t : Int) % 2 = 0) = False := eq_false (by omega)
        simp (disch := omega) only [i_lit, i_neg, i_add, i_sub, i_mul, i_ofNat, i_div, i_le, i_lt, i_eq, i_ix, i_inb, i_max, i_min, e_rem, j_lit, j_i, Int.reduceToNat, Int.reduceAdd, Int.reduceSub, Int.reduceMul, Int.reduceNeg, Int.reduceLT, Int.reduceLE, Int.reduceEq, gd_t, gd_T, ↓bd_m, ↓on_m, ↓ec_m, ↓reduceIte, if_true, if_false, true_and, and_true, false_and, and_false, true_or, or_true, false_or, or_false, Bool.false_eq_true, b2i_0, b2i_1, bl_0, bl_1, bl_b2, not_true_eq_false, not_false_eq_true, B_X1_foresees_47, B_X8_layTurns_61, B_X8_layTurns_94, cs.k, hz, kx, ix_, ts.k, ts.r1, ts.k1, ts.l1, ts.r2, ts.k2, ts.l2, ts.r3, ts.k3, ts.l3, ts.r4, ts.k4, ts.l4, ts.r5, ts.k5, ts.l5, ts.r6, ts.k6, ts.l6, ts.r7, ts.k7, ts.l7, ts.r8, ts.k8, ts.l8, ts.r9, ts.k9, ts.l9, ts.r10, ts.k10, ts.l10, ts.r11, ts.k11, ts.l11, ts.r12, ts.k12, ts.l12, ts.r13, ts.k13, ts.l13, ts.r14, ts.k14, ts.l14, ts.r15, ts.k15, ts.l15, ts.r16, ts.k16, ts.l16, ts.r17, ts.k17, ts.l17, ts.r18, ts.k18, ts.l18, ts.r19, ts.k19, ts.l19, ts.r20, ts.k20, ts.l20, ti, ho, pT]
        exact turn_x GC2 GT1 bA bB hx hn1 (by omega) hl (fun l' hl' => R1.1 (t + 1) l' (by omega) (by omega) hl') fin (by rw [if_neg par])
