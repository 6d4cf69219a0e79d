/-! PURE GE: turns -/
set_option maxRecDepth 100000
def SP (z a : Nat) : Prop := z + 295 ≤ a ∧ a ≤ z + 419
def QP (m a : Nat) : Prop := m + 13 ≤ a ∧ a ≤ m + 15
def pA (m t : Nat) : Nat := if t % 2 = 0 then m + 14 else m + 15
def pB (m t : Nat) : Nat := if t % 2 = 0 then m + 15 else m + 14
def TRw (g gT : AH) (z m t l : Nat) : Prop := hJ g (z + 337 + t) l = hJ gT (pA m t) (8 * t + l) ∧ hJ g (z + 379 + t) l = hJ gT (pB m t) (8 * t + l)
def CHw (g gT : AH) (z m : Nat) (n : Int) (t l : Nat) : Prop := ∃ ch : Nat, (ch : Int) < n ∧ hI g (z + 295 + t) l = iI ch ∧ hI gT (m + 13) (8 * t + l) = iI ch
theorem GTC.fr {g g' : AH} {z x : Nat} {n : Int} {A B : Nat → Nat → Int} (G : GTC g z x n A B) (hx : ¬ (z + 269 ≤ x ∧ x ≤ z + 495)) (T : tf (SP z) g g') : GTC g' z x n A B := by
  obtain ⟨cs, hz, kx, ix_, n8, tb⟩ := G
  refine ⟨cs.tf T, by rw [T.R]; exact hz, by rw [T.K]; exact kx, by rw [T.I (by unfold SP; omega)]; exact ix_, n8, fun i j hi hj => ?_⟩
  rw [T.I (by unfold SP; omega), T.I (by unfold SP; omega)]
  exact tb i j hi hj
theorem GTT.fr {g g' : AH} {m : Nat} {τ : Nat → Int} {A B : Nat → Nat → Int} (G : GTT g m τ A B) (T : tf (QP m) g g') : GTT g' m τ A B := by
  obtain ⟨tn, n8, tb⟩ := G
  refine ⟨tn.tf T (by unfold QP; omega), n8, fun i j hi hj => ?_⟩
  rw [T.I (by unfold QP; omega)]
  exact tb i j hi hj
theorem turn_x {g0 gT0 : AH} {z x m : Nat} {τ : Nat → Int} {A B : Nat → Nat → Int} (GC : GTC g0 z x (τ 3) A B) (GT : GTT gT0 m τ A B) (bA : bdd (τ 3) A) (bB : bdd (τ 3) B) (hx : ¬ (z + 269 ≤ x ∧ x ≤ z + 495)) (hn1 : 1 ≤ τ 3) {t l : Nat} (ht : t ≤ 39) (hl : (l : Int) < τ 3) (rw1 : ∀ l' : Nat, (l' : Int) < τ 3 → TRw g0 gT0 z m (t + 1) l') {kh41 : AH → Nat → Int32 → Option AH} {kh47 : AH → Nat → Int32 → Int32 → Option AH} {kh53 : AH → Nat → Int32 → Option AH} {kh61 : AH → Nat → Int32 → Int32 → Option AH} {R : AH → AH → Prop}
    (H : ∀ g' gT', tf (SP z) g0 g' → tf (QP m) gT0 gT' → (∀ c k, ¬ (c = z + 295 + t ∧ k = l) → hI g' c k = hI g0 c k) → (∀ c k, ¬ ((c = z + 337 + t ∨ c = z + 379 + t) ∧ k = l) → hJ g' c k = hJ g0 c k) → (∀ c k, ¬ (c = m + 13 ∧ k = 8 * t + l) → hI gT' c k = hI gT0 c k) → (∀ c k, ¬ ((c = m + 14 ∨ c = m + 15) ∧ k = 8 * t + l) → hJ gT' c k = hJ gT0 c k) → TRw g' gT' z m t l → CHw g' gT' z m (τ 3) t l → Ok2 (kh47 g' z (iI t) (iI (l + 1))) (kh61 gT' m (iI t) (iI (l + 1))) R)
    {f : Int32} (hf : f = if t % 2 = 0 then iI 1 else iI 0) {M0 : Int64} :
    Ok2 (G_X1_foresees_64 g0 kh41 kh47 z (iI t) (iI l) M0 (iI 0)) (G_X8_layTurns_99 gT0 kh53 kh61 m (iI t) (iI l) (iI (8 * t + l)) f (iI 0)) R := by
  have hl8 := GT.2.1
  unfold G_X1_foresees_64 G_X8_layTurns_99
  refine lp_ok2 (fun s u k => ∃ (g gT : AH) (M : Int64) (i : Nat), s = (g, z, iI t, iI l, M, iI i) ∧ u = (gT, m, iI t, iI l, iI (8 * t + l), f, iI i) ∧ (i : Int) ≤ τ 3 ∧ k = (τ 3 - i).toNat ∧ tf (SP z) g0 g ∧ tf (QP m) gT0 gT ∧ (∀ c k, ¬ (c = z + 295 + t ∧ k = l) → hI g c k = hI g0 c k) ∧ hJ g = hJ g0 ∧ (∀ c k, ¬ (c = m + 13 ∧ k = 8 * t + l) → hI gT c k = hI gT0 c k) ∧ (∀ c k, ¬ ((c = m + 14 ∨ c = m + 15) ∧ k = 8 * t + l) → hJ gT c k = hJ gT0 c k) ∧ (i = 0 ∨ ∃ ch : Nat, (ch : Int) < τ 3 ∧ hI g (z + 295 + t) l = iI ch ∧ hI gT (m + 13) (8 * t + l) = iI ch ∧ M = hJ gT (pA m t) (8 * t + l) ∧ hJ gT (pB m t) (8 * t + l) = jI (if t % 2 = 0 then B ch l else A l ch) + hJ gT0 (pB m t) (8 * (t + 1) + ch))) ?_ fuel (τ 3).toNat _ _ ⟨g0, gT0, M0, 0, rfl, rfl, by omega, by omega, tf.rfl, tf.rfl, fun _ _ _ => rfl, rfl, fun _ _ _ => rfl, fun _ _ _ => rfl, Or.inl rfl⟩ (lt_fuel (by omega))
  rintro f1 f2 s u k ⟨g, gT, M, i, rfl, rfl, h1, rfl, T1, T2, fI, fJ, fTI, fTJ, h3⟩ ih
  have GC1 := GC.fr hx T1
  have GT1 := GT.fr T2
  obtain ⟨cs, hz, kx, ix_, -, tb⟩ := GC1
  have ts := GT1.1.s
  have ti := GT1.1.i
  have y1 : ((t : Int) + 1).toNat = t + 1 := by omega
  have y2 : (8 * (t : Int) + (l : Int)).toNat = 8 * t + l := by omega
  have wC := cs.w294 t (by omega)
  have wM := cs.w336 t (by omega)
  have wH := cs.w378 t (by omega)
  have wM1 := cs.w336 (t + 1) (by omega)
  have wH1 := cs.w378 (t + 1) (by omega)
  have wA := cs.w276 l (by omega)
  have wB := cs.w285 l (by omega)
  have SC : SP z (z + 295 + t) := by unfold SP; omega
  have SM : SP z (z + 337 + t) := by unfold SP; omega
  have SH : SP z (z + 379 + t) := by unfold SP; omega
  have Q13 : QP m (m + 13) := by unfold QP; omega
  have Q14 : QP m (m + 14) := by unfold QP; omega
  have Q15 : QP m (m + 15) := by unfold QP; omega
  unfold L_X1_foresees_64 L_X8_layTurns_99
  by_cases ho : τ 3 ≤ (i : Int)
  · rcases h3 with h3 | ⟨ch, c1, c2, c3, c4, c5⟩
    · omega
    have wAc := cs.w276 ch (by omega)
    have wBc := cs.w285 ch (by omega)
    have v1 := (tb ch l c1 hl).2
    have v2 := (tb l ch hl c1).1
    have ⟨b1, b2⟩ := bB ch l c1 hl
    have ⟨b3, b4⟩ := bA l ch hl c1
    have rwc := (rw1 ch c1).1
    simp (disch := omega) only [i_lit, i_neg, i_add, i_sub, i_mul, i_ofNat, i_div, i_le, i_lt, i_eq, i_ix, i_inb, i_max, i_min, e_rem, j_lit, j_i, Int.reduceToNat, Int.reduceAdd, Int.reduceSub, Int.reduceMul, Int.reduceNeg, Int.reduceLT, Int.reduceLE, Int.reduceEq, gd_t, gd_T, ↓bd_m, ↓on_m, ↓ec_m, ↓reduceIte, if_true, if_false, true_and, and_true, false_and, and_false, true_or, or_true, false_or, or_false, Bool.false_eq_true, b2i_0, b2i_1, bl_0, bl_1, bl_b2, not_true_eq_false, not_false_eq_true, B_X1_foresees_64, B_X1_foresees_154, B_X8_layTurns_99, B_X8_layTurns_281, cs.k, hz, kx, ix_, cs.r294, cs.k294, cs.l294, wC.1, wC.2.1, wC.2.2, cs.r336, cs.k336, cs.l336, wM.1, wM.2.1, wM.2.2, c2, ts.k, ts.r1, ts.k1, ts.l1, ts.r2, ts.k2, ts.l2, ts.r3, ts.k3, ts.l3, ts.r4, ts.k4, ts.l4, ts.r5, ts.k5, ts.l5, ts.r6, ts.k6, ts.l6, ts.r7, ts.k7, ts.l7, ts.r8, ts.k8, ts.l8, ts.r9, ts.k9, ts.l9, ts.r10, ts.k10, ts.l10, ts.r11, ts.k11, ts.l11, ts.r12, ts.k12, ts.l12, ts.r13, ts.k13, ts.l13, ts.r14, ts.k14, ts.l14, ts.r15, ts.k15, ts.l15, ts.r16, ts.k16, ts.l16, ts.r17, ts.k17, ts.l17, ts.r18, ts.k18, ts.l18, ts.r19, ts.k19, ts.l19, ts.r20, ts.k20, ts.l20, ti, ho, Int.toNat_natCast]
    refine fwLJ T1 SM (fun g2 U2 u2 d2 i2 => ?_)
    have csg : CS g2 z := (GC.fr hx U2).1
    have tbg := (GC.fr hx U2).2.2.2.2.2
    have wHg := csg.w378 t (by omega)
    have wM1g := csg.w336 (t + 1) (by omega)
    have wAg := csg.w276 l (by omega)
    have wBg := csg.w285 ch (by omega)
    have v1g := (tbg ch l c1 hl).2
    have v2g := (tbg l ch hl c1).1
    have r1 : hJ g2 (z + 337 + (t + 1)) ch = hJ gT0 (pA m (t + 1)) (8 * (t + 1) + ch) := by rw [d2 _ _ (by omega), fJ]; exact rwc
    by_cases par : t % 2 = 0
    · have pT : ((t : Int) % 2 = 0) = True := eq_true (by omega)
      simp (disch := omega) only [i_lit, i_neg, i_add, i_sub, i_mul, i_ofNat, i_div, i_le, i_lt, i_eq, i_ix, i_inb, i_max, i_min, e_rem, j_lit, j_i, Int.reduceToNat, Int.reduceAdd, Int.reduceSub, Int.reduceMul, Int.reduceNeg, Int.reduceLT, Int.reduceLE, Int.reduceEq, gd_t, gd_T, ↓bd_m, ↓on_m, ↓ec_m, ↓reduceIte, if_true, if_false, true_and, and_true, false_and, and_false, true_or, or_true, false_or, or_false, Bool.false_eq_true, b2i_0, b2i_1, bl_0, bl_1, bl_b2, not_true_eq_false, not_false_eq_true, B_X1_foresees_174, B_X1_foresees_208, csg.k, csg.r378, csg.k378, csg.l378, wHg.1, wHg.2.1, wHg.2.2, csg.r336, csg.k336, csg.l336, wM1g.1, wM1g.2.1, wM1g.2.2, csg.r285, csg.k285, csg.l285, wBg.1, wBg.2.1, wBg.2.2, v1g, pT, r1, y1, Int.toNat_natCast]
      refine fwLJ U2 SH (fun g3 U3 u3 d3 i3 => ?_)
      simp (disch := omega) only [i_lit, i_neg, i_add, i_sub, i_mul, i_ofNat, i_div, i_le, i_lt, i_eq, i_ix, i_inb, i_max, i_min, e_rem, j_lit, j_i, Int.reduceToNat, Int.reduceAdd, Int.reduceSub, Int.reduceMul, Int.reduceNeg, Int.reduceLT, Int.reduceLE, Int.reduceEq, gd_t, gd_T, ↓bd_m, ↓on_m, ↓ec_m, ↓reduceIte, if_true, if_false, true_and, and_true, false_and, and_false, true_or, or_true, false_or, or_false, Bool.false_eq_true, b2i_0, b2i_1, bl_0, bl_1, bl_b2, not_true_eq_false, not_false_eq_true, B_X1_foresees_222]
      have eA : pA m (t + 1) = m + 15 := by unfold pA; rw [if_neg (by omega)]
      have eA0 : pA m t = m + 14 := by unfold pA; rw [if_pos par]
      have eB0 : pB m t = m + 15 := by unfold pB; rw [if_pos par]
      refine H g3 gT U3 T2 (fun c k q => by rw [i3, i2]; exact fI c k q) (fun c k q => by rw [d3 c k (fun w => q ⟨Or.inr w.1, w.2⟩), d2 c k (fun w => q ⟨Or.inl w.1, w.2⟩), fJ]) fTI fTJ ⟨?_, ?_⟩ ⟨ch, c1, by rw [i3, i2]; exact c2, c3⟩
      · rw [d3 _ _ (by omega), u2, c4]
      · rw [u3, c5, if_pos par, eA, eB0]
    · have pT : ((t : Int) % 2 = 0) = False := eq_false (by omega)
      simp (disch := omega) only [i_lit, i_neg, i_add, i_sub, i_mul, i_ofNat, i_div, i_le, i_lt, i_eq, i_ix, i_inb, i_max, i_min, e_rem, j_lit, j_i, Int.reduceToNat, Int.reduceAdd, Int.reduceSub, Int.reduceMul, Int.reduceNeg, Int.reduceLT, Int.reduceLE, Int.reduceEq, gd_t, gd_T, ↓bd_m, ↓on_m, ↓ec_m, ↓reduceIte, if_true, if_false, true_and, and_true, false_and, and_false, true_or, or_true, false_or, or_false, Bool.false_eq_true, b2i_0, b2i_1, bl_0, bl_1, bl_b2, not_true_eq_false, not_false_eq_true, B_X1_foresees_174, B_X1_foresees_208, csg.k, csg.r378, csg.k378, csg.l378, wHg.1, wHg.2.1, wHg.2.2, csg.r336, csg.k336, csg.l336, wM1g.1, wM1g.2.1, wM1g.2.2, csg.r276, csg.k276, csg.l276, wAg.1, wAg.2.1, wAg.2.2, v2g, pT, r1, y1, Int.toNat_natCast]
      refine fwLJ U2 SH (fun g3 U3 u3 d3 i3 => ?_)
      simp (disch := omega) only [i_lit, i_neg, i_add, i_sub, i_mul, i_ofNat, i_div, i_le, i_lt, i_eq, i_ix, i_inb, i_max, i_min, e_rem, j_lit, j_i, Int.reduceToNat, Int.reduceAdd, Int.reduceSub, Int.reduceMul, Int.reduceNeg, Int.reduceLT, Int.reduceLE, Int.reduceEq, gd_t, gd_T, ↓bd_m, ↓on_m, ↓ec_m, ↓reduceIte, if_true, if_false, true_and, and_true, false_and, and_false, true_or, or_true, false_or, or_false, Bool.false_eq_true, b2i_0, b2i_1, bl_0, bl_1, bl_b2, not_true_eq_false, not_false_eq_true, B_X1_foresees_222]
      have eA : pA m (t + 1) = m + 14 := by unfold pA; rw [if_pos (by omega)]
      have eA0 : pA m t = m + 15 := by unfold pA; rw [if_neg par]
      have eB0 : pB m t = m + 14 := by unfold pB; rw [if_neg par]
      refine H g3 gT U3 T2 (fun c k q => by rw [i3, i2]; exact fI c k q) (fun c k q => by rw [d3 c k (fun w => q ⟨Or.inr w.1, w.2⟩), d2 c k (fun w => q ⟨Or.inl w.1, w.2⟩), fJ]) fTI fTJ ⟨?_, ?_⟩ ⟨ch, c1, by rw [i3, i2]; exact c2, c3⟩
      · rw [d3 _ _ (by omega), u2, c4]
      · rw [u3, c5, if_neg par, eA, eB0]
  · have hi : (i : Int) < τ 3 := by omega
    have nx := fun g' gT' M' (a1 : tf (SP z) g0 g') (a2 : tf (QP m) gT0 gT') a3 a4 a5 a6 a7 => ih (g', z, iI t, iI l, M', iI ((i + 1 : Nat) : Int)) (gT', m, iI t, iI l, iI (8 * t + l), f, iI ((i + 1 : Nat) : Int)) (τ 3 - ((i + 1 : Nat) : Int)).toNat (by omega) ⟨g', gT', M', i + 1, rfl, rfl, by omega, rfl, a1, a2, a3, a4, a5, a6, a7⟩
    rw [show (((i + 1 : Nat)) : Int) = (i : Int) + 1 by omega] at nx
    have skip : i ≠ 0 → Ok2 (B_X1_foresees_148 g kh41 kh47 (fun h a0 x2 x3 l4 x6 => f1 (h, a0, x2, x3, l4, x6)) z (iI t) (iI l) M (iI i)) (B_X8_layTurns_275 gT kh53 kh61 (fun h a0 x4 x5 x6 x7 x8 => f2 (h, a0, x4, x5, x6, x7, x8)) m (iI t) (iI l) (iI (8 * t + l)) f (iI i)) R := by
      intro h0
      simp (disch := omega) only [i_lit, i_neg, i_add, i_sub, i_mul, i_ofNat, i_div, i_le, i_lt, i_eq, i_ix, i_inb, i_max, i_min, e_rem, j_lit, j_i, Int.reduceToNat, Int.reduceAdd, Int.reduceSub, Int.reduceMul, Int.reduceNeg, Int.reduceLT, Int.reduceLE, Int.reduceEq, gd_t, gd_T, ↓bd_m, ↓on_m, ↓ec_m, ↓reduceIte, if_true, if_false, true_and, and_true, false_and, and_false, true_or, or_true, false_or, or_false, Bool.false_eq_true, b2i_0, b2i_1, bl_0, bl_1, bl_b2, not_true_eq_false, not_false_eq_true, B_X1_foresees_148, B_X8_layTurns_275]
      exact nx g gT M T1 T2 fI fJ fTI fTJ (Or.inr (h3.resolve_left h0))
    have upd : ∀ X l9 l11 : Int64, (if t % 2 = 0 then l9 else l11) = X → (if t % 2 = 0 then l11 else l9) = jI (if t % 2 = 0 then B i l else A l i) + hJ gT0 (pB m t) (8 * (t + 1) + i) → Ok2 (B_X1_foresees_134 g kh41 kh47 (fun h a0 x2 x3 l4 x6 => f1 (h, a0, x2, x3, l4, x6)) z (iI t) (iI l) (iI i) X) (B_X8_layTurns_248 gT kh53 kh61 (fun h a0 x4 x5 x6 x7 x8 => f2 (h, a0, x4, x5, x6, x7, x8)) m (iI t) (iI l) (iI (8 * t + l)) f (iI i) l9 l11) R := by
      intro X l9 l11 e1 e2
      simp (disch := omega) only [i_lit, i_neg, i_add, i_sub, i_mul, i_ofNat, i_div, i_le, i_lt, i_eq, i_ix, i_inb, i_max, i_min, e_rem, j_lit, j_i, Int.reduceToNat, Int.reduceAdd, Int.reduceSub, Int.reduceMul, Int.reduceNeg, Int.reduceLT, Int.reduceLE, Int.reduceEq, gd_t, gd_T, ↓bd_m, ↓on_m, ↓ec_m, ↓reduceIte, if_true, if_false, true_and, and_true, false_and, and_false, true_or, or_true, false_or, or_false, Bool.false_eq_true, b2i_0, b2i_1, bl_0, bl_1, bl_b2, not_true_eq_false, not_false_eq_true, B_X1_foresees_134, B_X8_layTurns_248, cs.k, cs.r294, cs.k294, cs.l294, wC.1, wC.2.1, wC.2.2, ts.k, ts.r1, ts.k1, ts.l1, ts.r2, ts.k2, ts.l2, ts.r3, ts.k3, ts.l3, ts.r4, ts.k4, ts.l4, ts.r5, ts.k5, ts.l5, ts.r6, ts.k6, ts.l6, ts.r7, ts.k7, ts.l7, ts.r8, ts.k8, ts.l8, ts.r9, ts.k9, ts.l9, ts.r10, ts.k10, ts.l10, ts.r11, ts.k11, ts.l11, ts.r12, ts.k12, ts.l12, ts.r13, ts.k13, ts.l13, ts.r14, ts.k14, ts.l14, ts.r15, ts.k15, ts.l15, ts.r16, ts.k16, ts.l16, ts.r17, ts.k17, ts.l17, ts.r18, ts.k18, ts.l18, ts.r19, ts.k19, ts.l19, ts.r20, ts.k20, ts.l20, y2, Int.toNat_natCast]
      refine fwL T1 SC (fun g2 U2 u2 d2 i2 => ?_)
      refine fwR T2 Q13 (fun t2 V2 v2 e2' j2 => ?_)
      have ts2 := (GT.fr V2).1.s
      simp (disch := omega) only [i_lit, i_neg, i_add, i_sub, i_mul, i_ofNat, i_div, i_le, i_lt, i_eq, i_ix, i_inb, i_max, i_min, e_rem, j_lit, j_i, Int.reduceToNat, Int.reduceAdd, Int.reduceSub, Int.reduceMul, Int.reduceNeg, Int.reduceLT, Int.reduceLE, Int.reduceEq, gd_t, gd_T, ↓bd_m, ↓on_m, ↓ec_m, ↓reduceIte, if_true, if_false, true_and, and_true, false_and, and_false, true_or, or_true, false_or, or_false, Bool.false_eq_true, b2i_0, b2i_1, bl_0, bl_1, bl_b2, not_true_eq_false, not_false_eq_true, B_X1_foresees_148, B_X8_layTurns_257, ts2.k, ts2.r1, ts2.k1, ts2.l1, ts2.r2, ts2.k2, ts2.l2, ts2.r3, ts2.k3, ts2.l3, ts2.r4, ts2.k4, ts2.l4, ts2.r5, ts2.k5, ts2.l5, ts2.r6, ts2.k6, ts2.l6, ts2.r7, ts2.k7, ts2.l7, ts2.r8, ts2.k8, ts2.l8, ts2.r9, ts2.k9, ts2.l9, ts2.r10, ts2.k10, ts2.l10, ts2.r11, ts2.k11, ts2.l11, ts2.r12, ts2.k12, ts2.l12, ts2.r13, ts2.k13, ts2.l13, ts2.r14, ts2.k14, ts2.l14, ts2.r15, ts2.k15, ts2.l15, ts2.r16, ts2.k16, ts2.l16, ts2.r17, ts2.k17, ts2.l17, ts2.r18, ts2.k18, ts2.l18, ts2.r19, ts2.k19, ts2.l19, ts2.r20, ts2.k20, ts2.l20, y2]
      refine fwRJ V2 Q14 (fun t3 V3 v3 e3 j3 => ?_)
      have ts3 := (GT.fr V3).1.s
      simp (disch := omega) only [i_lit, i_neg, i_add, i_sub, i_mul, i_ofNat, i_div, i_le, i_lt, i_eq, i_ix, i_inb, i_max, i_min, e_rem, j_lit, j_i, Int.reduceToNat, Int.reduceAdd, Int.reduceSub, Int.reduceMul, Int.reduceNeg, Int.reduceLT, Int.reduceLE, Int.reduceEq, gd_t, gd_T, ↓bd_m, ↓on_m, ↓ec_m, ↓reduceIte, if_true, if_false, true_and, and_true, false_and, and_false, true_or, or_true, false_or, or_false, Bool.false_eq_true, b2i_0, b2i_1, bl_0, bl_1, bl_b2, not_true_eq_false, not_false_eq_true, B_X8_layTurns_266, ts3.k, ts3.r1, ts3.k1, ts3.l1, ts3.r2, ts3.k2, ts3.l2, ts3.r3, ts3.k3, ts3.l3, ts3.r4, ts3.k4, ts3.l4, ts3.r5, ts3.k5, ts3.l5, ts3.r6, ts3.k6, ts3.l6, ts3.r7, ts3.k7, ts3.l7, ts3.r8, ts3.k8, ts3.l8, ts3.r9, ts3.k9, ts3.l9, ts3.r10, ts3.k10, ts3.l10, ts3.r11, ts3.k11, ts3.l11, ts3.r12, ts3.k12, ts3.l12, ts3.r13, ts3.k13, ts3.l13, ts3.r14, ts3.k14, ts3.l14, ts3.r15, ts3.k15, ts3.l15, ts3.r16, ts3.k16, ts3.l16, ts3.r17, ts3.k17, ts3.l17, ts3.r18, ts3.k18, ts3.l18, ts3.r19, ts3.k19, ts3.l19, ts3.r20, ts3.k20, ts3.l20, y2]
      refine fwRJ V3 Q15 (fun t4 V4 v4 e4 j4 => ?_)
      simp (disch := omega) only [i_lit, i_neg, i_add, i_sub, i_mul, i_ofNat, i_div, i_le, i_lt, i_eq, i_ix, i_inb, i_max, i_min, e_rem, j_lit, j_i, Int.reduceToNat, Int.reduceAdd, Int.reduceSub, Int.reduceMul, Int.reduceNeg, Int.reduceLT, Int.reduceLE, Int.reduceEq, gd_t, gd_T, ↓bd_m, ↓on_m, ↓ec_m, ↓reduceIte, if_true, if_false, true_and, and_true, false_and, and_false, true_or, or_true, false_or, or_false, Bool.false_eq_true, b2i_0, b2i_1, bl_0, bl_1, bl_b2, not_true_eq_false, not_false_eq_true, B_X8_layTurns_275]
      refine nx g2 t4 X U2 V4 (fun c k q => by rw [d2 c k q]; exact fI c k q) (by rw [i2]; exact fJ) (fun c k q => by rw [j4, j3, e2' c k q]; exact fTI c k q) (fun c k q => by rw [e4 c k (fun w => q ⟨Or.inr w.1, w.2⟩), e3 c k (fun w => q ⟨Or.inl w.1, w.2⟩), j2]; exact fTJ c k q) (Or.inr ⟨i, hi, u2, by rw [j4, j3]; exact v2, ?_, ?_⟩)
      · rw [← e1]
        unfold pA
        split
        · rw [e4 _ _ (by omega), v3]
        · rw [v4]
      · rw [← e2]
        unfold pB
        split
        · rw [v4]
        · rw [e4 _ _ (by omega), v3]
    have wAi := cs.w276 i (by omega)
    have ⟨W, hW⟩ : ∃ W, hJ gT0 (m + 14) (8 * (t + 1) + i) = W := ⟨_, rfl⟩
    have ⟨W', hW'⟩ : ∃ W, hJ gT0 (m + 15) (8 * (t + 1) + i) = W := ⟨_, rfl⟩
    have rW : hJ gT (m + 14) (8 * (t + 1) + i) = W := by rw [fTJ _ _ (by omega)]; exact hW
    have rW' : hJ gT (m + 15) (8 * (t + 1) + i) = W' := by rw [fTJ _ _ (by omega)]; exact hW'
    have y3 : (8 * ((t : Int) + 1) + (i : Int)).toNat = 8 * (t + 1) + i := by omega
    have n10 : iI 1 ≠ iI 0 := by decide
    have n10F : (iI 1 = iI 0) = False := eq_false n10
    by_cases par : t % 2 = 0
    · have pT : ((t : Int) % 2 = 0) = True := eq_true (by omega)
      rw [if_pos par] at hf
      subst hf
      have lW : hJ g (z + 379 + (t + 1)) i = W := by
        rw [fJ, (rw1 i hi).2]
        unfold pB
        rw [if_neg (by omega)]
        exact hW
      have v1 := (tb i l hi hl).1
      have ⟨b1, b2⟩ := bA i l hi hl
      have ⟨b3, b4⟩ := bB i l hi hl
      have upd := upd (jI (A i l) + W) (jI (A i l) + W) (jI (B i l) + W') (if_pos par) (by rw [if_pos par, if_pos par, show pB m t = m + 15 by unfold pB; rw [if_pos par], hW'])
      by_cases i0 : i = 0
      · have iT : ((i : Int) ≤ 0) = True := eq_true (by omega)
        simp (disch := omega) only [i_lit, i_neg, i_add, i_sub, i_mul, i_ofNat, i_div, i_le, i_lt, i_eq, i_ix, i_inb, i_max, i_min, e_rem, j_lit, j_i, Int.reduceToNat, Int.reduceAdd, Int.reduceSub, Int.reduceMul, Int.reduceNeg, Int.reduceLT, Int.reduceLE, Int.reduceEq, gd_t, gd_T, ↓bd_m, ↓on_m, ↓ec_m, ↓reduceIte, if_true, if_false, true_and, and_true, false_and, and_false, true_or, or_true, false_or, or_false, Bool.false_eq_true, b2i_0, b2i_1, bl_0, bl_1, bl_b2, not_true_eq_false, not_false_eq_true, B_X1_foresees_64, B_X1_foresees_103, B_X8_layTurns_99, B_X8_layTurns_123, B_X8_layTurns_135, B_X8_layTurns_171, B_X8_layTurns_183, cs.k, hz, kx, ix_, cs.r276, cs.k276, cs.l276, wAi.1, wAi.2.1, wAi.2.2, cs.r378, cs.k378, cs.l378, wH1.1, wH1.2.1, wH1.2.2, v1, lW, pT, iT, y1, y3, n10F, ts.k, ts.r1, ts.k1, ts.l1, ts.r2, ts.k2, ts.l2, ts.r3, ts.k3, ts.l3, ts.r4, ts.k4, ts.l4, ts.r5, ts.k5, ts.l5, ts.r6, ts.k6, ts.l6, ts.r7, ts.k7, ts.l7, ts.r8, ts.k8, ts.l8, ts.r9, ts.k9, ts.l9, ts.r10, ts.k10, ts.l10, ts.r11, ts.k11, ts.l11, ts.r12, ts.k12, ts.l12, ts.r13, ts.k13, ts.l13, ts.r14, ts.k14, ts.l14, ts.r15, ts.k15, ts.l15, ts.r16, ts.k16, ts.l16, ts.r17, ts.k17, ts.l17, ts.r18, ts.k18, ts.l18, ts.r19, ts.k19, ts.l19, ts.r20, ts.k20, ts.l20, ti, gain0 GT1 hi hl, gain1 GT1 hi hl n10, rW, rW', ho, Int.toNat_natCast]
        exact upd
      · have iT : ((i : Int) ≤ 0) = False := eq_false (by omega)
        obtain ⟨ch, c1, c2, c3, c4, c5⟩ := h3.resolve_left i0
        have eM : hJ gT (m + 14) (8 * t + l) = M := by rw [c4]; unfold pA; rw [if_pos par]
        by_cases q : iI 0 < lg_cmp (jI (A i l) + W) M
        · simp (disch := omega) only [i_lit, i_neg, i_add, i_sub, i_mul, i_ofNat, i_div, i_le, i_lt, i_eq, i_ix, i_inb, i_max, i_min, e_rem, j_lit, j_i, Int.reduceToNat, Int.reduceAdd, Int.reduceSub, Int.reduceMul, Int.reduceNeg, Int.reduceLT, Int.reduceLE, Int.reduceEq, gd_t, gd_T, ↓bd_m, ↓on_m, ↓ec_m, ↓reduceIte, if_true, if_false, true_and, and_true, false_and, and_false, true_or, or_true, false_or, or_false, Bool.false_eq_true, b2i_0, b2i_1, bl_0, bl_1, bl_b2, not_true_eq_false, not_false_eq_true, B_X1_foresees_64, B_X1_foresees_103, B_X8_layTurns_99, B_X8_layTurns_123, B_X8_layTurns_135, B_X8_layTurns_171, B_X8_layTurns_183, cs.k, hz, kx, ix_, cs.r276, cs.k276, cs.l276, wAi.1, wAi.2.1, wAi.2.2, cs.r378, cs.k378, cs.l378, wH1.1, wH1.2.1, wH1.2.2, v1, lW, pT, iT, y1, y2, y3, n10F, ts.k, ts.r1, ts.k1, ts.l1, ts.r2, ts.k2, ts.l2, ts.r3, ts.k3, ts.l3, ts.r4, ts.k4, ts.l4, ts.r5, ts.k5, ts.l5, ts.r6, ts.k6, ts.l6, ts.r7, ts.k7, ts.l7, ts.r8, ts.k8, ts.l8, ts.r9, ts.k9, ts.l9, ts.r10, ts.k10, ts.l10, ts.r11, ts.k11, ts.l11, ts.r12, ts.k12, ts.l12, ts.r13, ts.k13, ts.l13, ts.r14, ts.k14, ts.l14, ts.r15, ts.k15, ts.l15, ts.r16, ts.k16, ts.l16, ts.r17, ts.k17, ts.l17, ts.r18, ts.k18, ts.l18, ts.r19, ts.k19, ts.l19, ts.r20, ts.k20, ts.l20, ti, gain0 GT1 hi hl, gain1 GT1 hi hl n10, rW, rW', eM, q, ho, Int.toNat_natCast]
          exact upd
        · simp (disch := omega) only [i_lit, i_neg, i_add, i_sub, i_mul, i_ofNat, i_div, i_le, i_lt, i_eq, i_ix, i_inb, i_max, i_min, e_rem, j_lit, j_i, Int.reduceToNat, Int.reduceAdd, Int.reduceSub, Int.reduceMul, Int.reduceNeg, Int.reduceLT, Int.reduceLE, Int.reduceEq, gd_t, gd_T, ↓bd_m, ↓on_m, ↓ec_m, ↓reduceIte, if_true, if_false, true_and, and_true, false_and, and_false, true_or, or_true, false_or, or_false, Bool.false_eq_true, b2i_0, b2i_1, bl_0, bl_1, bl_b2, not_true_eq_false, not_false_eq_true, B_X1_foresees_64, B_X1_foresees_103, B_X8_layTurns_99, B_X8_layTurns_123, B_X8_layTurns_135, B_X8_layTurns_171, B_X8_layTurns_183, cs.k, hz, kx, ix_, cs.r276, cs.k276, cs.l276, wAi.1, wAi.2.1, wAi.2.2, cs.r378, cs.k378, cs.l378, wH1.1, wH1.2.1, wH1.2.2, v1, lW, pT, iT, y1, y2, y3, n10F, ts.k, ts.r1, ts.k1, ts.l1, ts.r2, ts.k2, ts.l2, ts.r3, ts.k3, ts.l3, ts.r4, ts.k4, ts.l4, ts.r5, ts.k5, ts.l5, ts.r6, ts.k6, ts.l6, ts.r7, ts.k7, ts.l7, ts.r8, ts.k8, ts.l8, ts.r9, ts.k9, ts.l9, ts.r10, ts.k10, ts.l10, ts.r11, ts.k11, ts.l11, ts.r12, ts.k12, ts.l12, ts.r13, ts.k13, ts.l13, ts.r14, ts.k14, ts.l14, ts.r15, ts.k15, ts.l15, ts.r16, ts.k16, ts.l16, ts.r17, ts.k17, ts.l17, ts.r18, ts.k18, ts.l18, ts.r19, ts.k19, ts.l19, ts.r20, ts.k20, ts.l20, ti, gain0 GT1 hi hl, gain1 GT1 hi hl n10, rW, rW', eM, q, ho, Int.toNat_natCast]
          exact skip i0
    · have pT : ((t : Int) % 2 = 0) = False := eq_false (by omega)
      rw [if_neg par] at hf
      subst hf
      have lW : hJ g (z + 379 + (t + 1)) i = W' := by
        rw [fJ, (rw1 i hi).2]
        unfold pB
        rw [if_pos (by omega)]
        exact hW'
      have v1 := (tb l i hl hi).2
      have ⟨b1, b2⟩ := bA l i hl hi
      have ⟨b3, b4⟩ := bB l i hl hi
      have upd := upd (jI (B l i) + W') (jI (A l i) + W) (jI (B l i) + W') (if_neg par) (by rw [if_neg par, if_neg par, show pB m t = m + 14 by unfold pB; rw [if_neg par], hW])
      by_cases i0 : i = 0
      · have iT : ((i : Int) ≤ 0) = True := eq_true (by omega)
        simp (disch := omega) only [i_lit, i_neg, i_add, i_sub, i_mul, i_ofNat, i_div, i_le, i_lt, i_eq, i_ix, i_inb, i_max, i_min, e_rem, j_lit, j_i, Int.reduceToNat, Int.reduceAdd, Int.reduceSub, Int.reduceMul, Int.reduceNeg, Int.reduceLT, Int.reduceLE, Int.reduceEq, gd_t, gd_T, ↓bd_m, ↓on_m, ↓ec_m, ↓reduceIte, if_true, if_false, true_and, and_true, false_and, and_false, true_or, or_true, false_or, or_false, Bool.false_eq_true, b2i_0, b2i_1, bl_0, bl_1, bl_b2, not_true_eq_false, not_false_eq_true, B_X1_foresees_64, B_X1_foresees_103, B_X8_layTurns_99, B_X8_layTurns_123, B_X8_layTurns_135, B_X8_layTurns_171, B_X8_layTurns_183, cs.k, hz, kx, ix_, cs.r285, cs.k285, cs.l285, wB.1, wB.2.1, wB.2.2, cs.r378, cs.k378, cs.l378, wH1.1, wH1.2.1, wH1.2.2, v1, lW, pT, iT, y1, y3, n10F, ts.k, ts.r1, ts.k1, ts.l1, ts.r2, ts.k2, ts.l2, ts.r3, ts.k3, ts.l3, ts.r4, ts.k4, ts.l4, ts.r5, ts.k5, ts.l5, ts.r6, ts.k6, ts.l6, ts.r7, ts.k7, ts.l7, ts.r8, ts.k8, ts.l8, ts.r9, ts.k9, ts.l9, ts.r10, ts.k10, ts.l10, ts.r11, ts.k11, ts.l11, ts.r12, ts.k12, ts.l12, ts.r13, ts.k13, ts.l13, ts.r14, ts.k14, ts.l14, ts.r15, ts.k15, ts.l15, ts.r16, ts.k16, ts.l16, ts.r17, ts.k17, ts.l17, ts.r18, ts.k18, ts.l18, ts.r19, ts.k19, ts.l19, ts.r20, ts.k20, ts.l20, ti, gain0 GT1 hl hi, gain1 GT1 hl hi n10, rW, rW', ho, Int.toNat_natCast]
        exact upd
      · have iT : ((i : Int) ≤ 0) = False := eq_false (by omega)
        obtain ⟨ch, c1, c2, c3, c4, c5⟩ := h3.resolve_left i0
        have eM : hJ gT (m + 15) (8 * t + l) = M := by rw [c4]; unfold pA; rw [if_neg par]
        by_cases q : iI 0 < lg_cmp (jI (B l i) + W') M
        · simp (disch := omega) only [i_lit, i_neg, i_add, i_sub, i_mul, i_ofNat, i_div, i_le, i_lt, i_eq, i_ix, i_inb, i_max, i_min, e_rem, j_lit, j_i, Int.reduceToNat, Int.reduceAdd, Int.reduceSub, Int.reduceMul, Int.reduceNeg, Int.reduceLT, Int.reduceLE, Int.reduceEq, gd_t, gd_T, ↓bd_m, ↓on_m, ↓ec_m, ↓reduceIte, if_true, if_false, true_and, and_true, false_and, and_false, true_or, or_true, false_or, or_false, Bool.false_eq_true, b2i_0, b2i_1, bl_0, bl_1, bl_b2, not_true_eq_false, not_false_eq_true, B_X1_foresees_64, B_X1_foresees_103, B_X8_layTurns_99, B_X8_layTurns_123, B_X8_layTurns_135, B_X8_layTurns_171, B_X8_layTurns_183, cs.k, hz, kx, ix_, cs.r285, cs.k285, cs.l285, wB.1, wB.2.1, wB.2.2, cs.r378, cs.k378, cs.l378, wH1.1, wH1.2.1, wH1.2.2, v1, lW, pT, iT, y1, y2, y3, n10F, ts.k, ts.r1, ts.k1, ts.l1, ts.r2, ts.k2, ts.l2, ts.r3, ts.k3, ts.l3, ts.r4, ts.k4, ts.l4, ts.r5, ts.k5, ts.l5, ts.r6, ts.k6, ts.l6, ts.r7, ts.k7, ts.l7, ts.r8, ts.k8, ts.l8, ts.r9, ts.k9, ts.l9, ts.r10, ts.k10, ts.l10, ts.r11, ts.k11, ts.l11, ts.r12, ts.k12, ts.l12, ts.r13, ts.k13, ts.l13, ts.r14, ts.k14, ts.l14, ts.r15, ts.k15, ts.l15, ts.r16, ts.k16, ts.l16, ts.r17, ts.k17, ts.l17, ts.r18, ts.k18, ts.l18, ts.r19, ts.k19, ts.l19, ts.r20, ts.k20, ts.l20, ti, gain0 GT1 hl hi, gain1 GT1 hl hi n10, rW, rW', eM, q, ho, Int.toNat_natCast]
          exact upd
        · simp (disch := omega) only [i_lit, i_neg, i_add, i_sub, i_mul, i_ofNat, i_div, i_le, i_lt, i_eq, i_ix, i_inb, i_max, i_min, e_rem, j_lit, j_i, Int.reduceToNat, Int.reduceAdd, Int.reduceSub, Int.reduceMul, Int.reduceNeg, Int.reduceLT, Int.reduceLE, Int.reduceEq, gd_t, gd_T, ↓bd_m, ↓on_m, ↓ec_m, ↓reduceIte, if_true, if_false, true_and, and_true, false_and, and_false, true_or, or_true, false_or, or_false, Bool.false_eq_true, b2i_0, b2i_1, bl_0, bl_1, bl_b2, not_true_eq_false, not_false_eq_true, B_X1_foresees_64, B_X1_foresees_103, B_X8_layTurns_99, B_X8_layTurns_123, B_X8_layTurns_135, B_X8_layTurns_171, B_X8_layTurns_183, cs.k, hz, kx, ix_, cs.r285, cs.k285, cs.l285, wB.1, wB.2.1, wB.2.2, cs.r378, cs.k378, cs.l378, wH1.1, wH1.2.1, wH1.2.2, v1, lW, pT, iT, y1, y2, y3, n10F, ts.k, ts.r1, ts.k1, ts.l1, ts.r2, ts.k2, ts.l2, ts.r3, ts.k3, ts.l3, ts.r4, ts.k4, ts.l4, ts.r5, ts.k5, ts.l5, ts.r6, ts.k6, ts.l6, ts.r7, ts.k7, ts.l7, ts.r8, ts.k8, ts.l8, ts.r9, ts.k9, ts.l9, ts.r10, ts.k10, ts.l10, ts.r11, ts.k11, ts.l11, ts.r12, ts.k12, ts.l12, ts.r13, ts.k13, ts.l13, ts.r14, ts.k14, ts.l14, ts.r15, ts.k15, ts.l15, ts.r16, ts.k16, ts.l16, ts.r17, ts.k17, ts.l17, ts.r18, ts.k18, ts.l18, ts.r19, ts.k19, ts.l19, ts.r20, ts.k20, ts.l20, ti, gain0 GT1 hl hi, gain1 GT1 hl hi n10, rW, rW', eM, q, ho, Int.toNat_natCast]
          exact skip i0
