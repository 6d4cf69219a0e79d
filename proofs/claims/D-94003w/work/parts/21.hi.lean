/-! PURE HI: filling, the tables -/
set_option maxRecDepth 100000
/-- paid by filling up to some -/
def pdV (N : Nat → Int) (d : Nat) (q : Nat → Int) (i to : Nat) : Int := ((to : Int) - (i : Int)) * N d + q (to - 1)
def pdF (N : Nat → Int) (d : Nat) (q : Nat → Int) (i to : Nat) (b : Int) : Int := if b = -1 then pdV N d q i to else if b ≤ pdV N d q i to then b else pdV N d q i to
/-- the least paid, by the days to come and what is in the tank -/
def pdS (N : Nat → Int) (n tank : Nat) : Nat → Nat → Int
  | 0, _ => 0
  | j + 1, i => itr (pdF N (n - 1 - j) (pdS N n tank j) i) (tank + 1 - max 1 i) (max 1 i) (-1)
theorem mul_c {a b : Int} (h : 0 ≤ a ∧ a ≤ 12) (k : 0 ≤ b ∧ b ≤ 99) : 0 ≤ a * b ∧ a * b ≤ 1188 := by
  have h1 := Int.mul_le_mul_of_nonneg_left k.2 h.1
  have h2 := Int.mul_nonneg h.1 k.1
  omega
theorem pdF_i {N : Nat → Int} {d : Nat} {q : Nat → Int} {i : Nat} {M : Int} : ∀ (c s : Nat) (b : Int), (∀ to, s ≤ to → to < s + c → 0 ≤ pdV N d q i to ∧ pdV N d q i to ≤ M) → (b = -1 ∨ (0 ≤ b ∧ b ≤ M)) → (itr (pdF N d q i) c s b = b ∧ (c = 0 ∨ b ≠ -1)) ∨ ∃ to, s ≤ to ∧ to < s + c ∧ itr (pdF N d q i) c s b = pdV N d q i to := by
  intro c
  induction c with
  | zero => intro s b _ _; exact Or.inl ⟨rfl, Or.inl rfl⟩
  | succ c ih =>
    intro s b hv hb
    have v0 := hv s (by omega) (by omega)
    rw [itr]
    have hb' : pdF N d q i s b ≠ -1 ∧ 0 ≤ pdF N d q i s b ∧ pdF N d q i s b ≤ M ∧ (pdF N d q i s b = pdV N d q i s ∨ (pdF N d q i s b = b ∧ b ≠ -1)) := by
      unfold pdF
      split
      · exact ⟨by omega, v0.1, v0.2, Or.inl rfl⟩
      · split
        · exact ⟨by omega, by omega, by omega, Or.inr ⟨rfl, by omega⟩⟩
        · exact ⟨by omega, v0.1, v0.2, Or.inl rfl⟩
    rcases ih (s + 1) (pdF N d q i s b) (fun to h1 h2 => hv to (by omega) (by omega)) (Or.inr ⟨hb'.2.1, hb'.2.2.1⟩) with ⟨w1, -⟩ | ⟨to, w1, w2, w3⟩
    · rcases hb'.2.2.2 with w | ⟨w, w'⟩
      · exact Or.inr ⟨s, by omega, by omega, by rw [w1, w]⟩
      · exact Or.inl ⟨by rw [w1, w], Or.inr w'⟩
    · exact Or.inr ⟨to, by omega, by omega, w3⟩
theorem pdS_b {N : Nat → Int} {n tank : Nat} (hN : ∀ k, k < n → 0 ≤ N k ∧ N k ≤ 99) (ht : 1 ≤ tank ∧ tank ≤ 12) : ∀ j, j ≤ n → ∀ i, i ≤ tank → 0 ≤ pdS N n tank j i ∧ pdS N n tank j i ≤ 1188 * (j : Int) := by
  intro j
  induction j with
  | zero => intro _ i _; exact ⟨Int.le_refl _, by show (0 : Int) ≤ 1188 * 0; omega⟩
  | succ j ih =>
    intro hj i hi
    have vb : ∀ to, max 1 i ≤ to → to < max 1 i + (tank + 1 - max 1 i) → 0 ≤ pdV N (n - 1 - j) (pdS N n tank j) i to ∧ pdV N (n - 1 - j) (pdS N n tank j) i to ≤ 1188 * (j : Int) + 1188 := by
      intro to h1 h2
      have a1 := ih (by omega) (to - 1) (by omega)
      have a2 := mul_c (a := (to : Int) - (i : Int)) (b := N (n - 1 - j)) (by omega) (hN _ (by omega))
      unfold pdV
      omega
    rcases pdF_i (tank + 1 - max 1 i) (max 1 i) (-1) vb (Or.inl rfl) with ⟨-, w⟩ | ⟨to, w1, w2, w3⟩
    · rcases w with w | w
      · omega
      · exact absurd rfl w
    · have := vb to w1 w2
      show 0 ≤ itr _ _ _ _ ∧ itr _ _ _ _ ≤ _
      rw [w3]
      push_cast
      omega
theorem pdS_e {N : Nat → Int} {n tank : Nat} (hN : ∀ k, k < n → 0 ≤ N k ∧ N k ≤ 99) (ht : 1 ≤ tank ∧ tank ≤ 12) {j : Nat} (hj : j < n) {i : Nat} (hi : i ≤ tank) : ∃ to, max 1 i ≤ to ∧ to ≤ tank ∧ pdS N n tank (j + 1) i = pdV N (n - 1 - j) (pdS N n tank j) i to := by
  have vb : ∀ to, max 1 i ≤ to → to < max 1 i + (tank + 1 - max 1 i) → 0 ≤ pdV N (n - 1 - j) (pdS N n tank j) i to ∧ pdV N (n - 1 - j) (pdS N n tank j) i to ≤ 1188 * (j : Int) + 1188 := by
    intro to h1 h2
    have a1 := pdS_b hN ht j (by omega) (to - 1) (by omega)
    have a2 := mul_c (a := (to : Int) - (i : Int)) (b := N (n - 1 - j)) (by omega) (hN _ (by omega))
    unfold pdV
    omega
  rcases pdF_i (tank + 1 - max 1 i) (max 1 i) (-1) vb (Or.inl rfl) with ⟨-, w⟩ | ⟨to, w1, w2, w3⟩
  · rcases w with w | w
    · omega
    · exact absurd rfl w
  · exact ⟨to, by omega, by omega, w3⟩
def FP (z a : Nat) : Prop := z + 445 ≤ a ∧ a ≤ z + 473
theorem TY.fr {h h' : AH} {z t row n : Nat} {N : Nat → Int} (Y : TY h z t row n N) (hr : ¬ FP z row) (T : tf (FP z) h h') : TY h' z t row n N := ⟨Y.1.tf T, Y.2.1, by rw [T.R]; exact Y.2.2.1, by rw [T.K]; exact Y.2.2.2.1, by rw [T.L]; exact Y.2.2.2.2.1, Y.2.2.2.2.2.1, fun k hk => by
  have := Y.2.2.2.2.2.2 k hk
  unfold tv at this ⊢
  rw [T.K, T.I hr, T.J hr]
  exact this⟩
theorem TZ.fr {h h' : AH} {m t n : Nat} {N : Nat → Int} (Z : TZ h m t n N) (T : tf (fun a => a = m + 17) h h') : TZ h' m t n N := ⟨Z.1.tf T, Z.2.1, by rw [T.I (by omega)]; exact Z.2.2.1, Z.2.2.2.1, fun k hk => by rw [T.J (by omega)]; exact Z.2.2.2.2.1 k hk, Z.2.2.2.2.2⟩
theorem fwE {α : Type} {P : Nat → Prop} {h g : AH} {a k : Nat} {v : Int32} {K : AH → Option α} {E : Option α → Prop} (T : tf P h g) (ha : P a) (H : ∀ g', tf P h g' → hI g' a k = v → (∀ c j, ¬ (c = a ∧ j = k) → hI g' c j = hI g c j) → hJ g' = hJ g → E (K g')) : E (lh (wI g a k v) K) :=
  H _ (T.trans (tf_wI ha)) (by rw [hI_wI, if_pos ⟨rfl, rfl⟩]) (fun c j q => by rw [hI_wI, if_neg q]) rfl
/-- the reference's table from day d on -/
def ptT (g : AH) (m n tank : Nat) (N : Nat → Int) (d : Nat) : Prop := ∀ d' i : Nat, d ≤ d' → d' ≤ n → i ≤ tank → hI g (m + 17) (13 * d' + i) = iI (pdS N n tank (n - d') i)
def ptC (g : AH) (z n tank : Nat) (N : Nat → Int) (d : Nat) : Prop := ∀ d' i : Nat, d ≤ d' → d' ≤ n → i ≤ tank → hI g (z + 445 + d') i = iI (pdS N n tank (n - d') i)
theorem fillT {h : AH} {m t n tank : Nat} {N : Nat → Int} (Z : TZ h m t n N) (hN : ∀ k, k < n → 0 ≤ N k ∧ N k ≤ 99) (ht : 1 ≤ tank ∧ tank ≤ 12) : ∃ g', F_X8_layPaid h m (iI t) (iI tank) = some g' ∧ tf (fun a => a = m + 17) h g' ∧ ptT g' m n tank N 0 := by
  have n28 := Z.2.2.2.1
  have t4 := Z.2.1
  have key : Ok1 (F_X8_layPaid h m (iI t) (iI tank)) (fun g' => tf (fun a => a = m + 17) h g' ∧ ptT g' m n tank N 0) := by
    have ts0 := Z.1
    have i19 := Z.2.2.1
    unfold F_X8_layPaid
    simp (disch := omega) only [i_lit, i_neg, i_add, i_sub, i_mul, i_ofNat, i_div, i_le, i_lt, i_eq, i_ix, i_inb, i_max, i_min, e_rem, j_lit, j_i, Int.reduceToNat, Int.reduceAdd, Int.reduceSub, Int.reduceMul, Int.reduceNeg, Int.reduceLT, Int.reduceLE, Int.reduceEq, gd_t, gd_T, ↓bd_m, ↓lh_t, ↓on_m, ↓ec_m, ↓reduceIte, if_true, if_false, true_and, and_true, false_and, and_false, true_or, or_true, false_or, or_false, Bool.false_eq_true, b2i_0, b2i_1, bl_0, bl_1, bl_b2, not_true_eq_false, not_false_eq_true, ts0.k, ts0.r1, ts0.k1, ts0.l1, ts0.r2, ts0.k2, ts0.l2, ts0.r3, ts0.k3, ts0.l3, ts0.r4, ts0.k4, ts0.l4, ts0.r5, ts0.k5, ts0.l5, ts0.r6, ts0.k6, ts0.l6, ts0.r7, ts0.k7, ts0.l7, ts0.r8, ts0.k8, ts0.l8, ts0.r9, ts0.k9, ts0.l9, ts0.r10, ts0.k10, ts0.l10, ts0.r11, ts0.k11, ts0.l11, ts0.r12, ts0.k12, ts0.l12, ts0.r13, ts0.k13, ts0.l13, ts0.r14, ts0.k14, ts0.l14, ts0.r15, ts0.k15, ts0.l15, ts0.r16, ts0.k16, ts0.l16, ts0.r17, ts0.k17, ts0.l17, ts0.r18, ts0.k18, ts0.l18, ts0.r19, ts0.k19, ts0.l19, ts0.r20, ts0.k20, ts0.l20, i19, Int.toNat_natCast]
    unfold G_X8_layPaid_10
    refine lp_ok (fun s k => ∃ (g : AH) (i : Nat), s = (g, m, iI t, iI tank, iI n, iI i) ∧ i ≤ tank + 1 ∧ k = tank + 1 - i ∧ tf (fun a => a = m + 17) h g ∧ ∀ i', i' < i → hI g (m + 17) (13 * n + i') = iI 0) ?_ fuel (tank + 1) _ ⟨h, 0, rfl, by omega, by omega, tf.rfl, fun i' hi' => by omega⟩ (lt_fuel (by omega))
    rintro self s k ⟨g, i, rfl, h1, rfl, T1, f1⟩ ih
    have ts := (Z.fr T1).1
    unfold L_X8_layPaid_10
    by_cases ho : (tank : Int) < (i : Int)
    · simp (disch := omega) only [i_lit, i_neg, i_add, i_sub, i_mul, i_ofNat, i_div, i_le, i_lt, i_eq, i_ix, i_inb, i_max, i_min, e_rem, j_lit, j_i, Int.reduceToNat, Int.reduceAdd, Int.reduceSub, Int.reduceMul, Int.reduceNeg, Int.reduceLT, Int.reduceLE, Int.reduceEq, gd_t, gd_T, ↓bd_m, ↓lh_t, ↓on_m, ↓ec_m, ↓reduceIte, if_true, if_false, true_and, and_true, false_and, and_false, true_or, or_true, false_or, or_false, Bool.false_eq_true, b2i_0, b2i_1, bl_0, bl_1, bl_b2, not_true_eq_false, not_false_eq_true, B_X8_layPaid_10, B_X8_layPaid_35, ho]
      clear ih
      have P0 : ptT g m n tank N n := fun d' i' h1 h2 h3 => by
        rw [show d' = n by omega, show n - n = 0 by omega]
        exact f1 i' (by omega)
      clear f1
      unfold G_X8_layPaid_40
      refine lp_ok (fun s k => ∃ (g : AH) (d : Nat), s = (g, m, iI t, iI tank, iI ((d : Int) - 1)) ∧ d ≤ n ∧ k = d ∧ tf (fun a => a = m + 17) h g ∧ ptT g m n tank N d) ?_ fuel n _ ⟨g, n, rfl, by omega, rfl, T1, P0⟩ (lt_fuel (by omega))
      clear T1 P0 ts
      rintro self s k ⟨g, d, rfl, h1, hkd, T1, P1⟩ ih
      unfold L_X8_layPaid_40
      by_cases hd0 : d = 0
      · subst hd0
        simp (disch := omega) only [i_lit, i_neg, i_add, i_sub, i_mul, i_ofNat, i_div, i_le, i_lt, i_eq, i_ix, i_inb, i_max, i_min, e_rem, j_lit, j_i, Int.reduceToNat, Int.reduceAdd, Int.reduceSub, Int.reduceMul, Int.reduceNeg, Int.reduceLT, Int.reduceLE, Int.reduceEq, gd_t, gd_T, ↓bd_m, ↓lh_t, ↓on_m, ↓ec_m, ↓reduceIte, if_true, if_false, true_and, and_true, false_and, and_false, true_or, or_true, false_or, or_false, Bool.false_eq_true, b2i_0, b2i_1, bl_0, bl_1, bl_b2, not_true_eq_false, not_false_eq_true, B_X8_layPaid_40, Int.natCast_zero]
        exact Ok1.some ⟨T1, P1⟩
      · obtain ⟨d, rfl⟩ : ∃ d', d = d' + 1 := ⟨d - 1, by omega⟩
        have e0 : (((d + 1 : Nat)) : Int) - 1 = (d : Int) := by omega
        have ng : ((d : Int) < 0) = False := eq_false (by omega)
        simp (disch := omega) only [i_lit, i_neg, i_add, i_sub, i_mul, i_ofNat, i_div, i_le, i_lt, i_eq, i_ix, i_inb, i_max, i_min, e_rem, j_lit, j_i, Int.reduceToNat, Int.reduceAdd, Int.reduceSub, Int.reduceMul, Int.reduceNeg, Int.reduceLT, Int.reduceLE, Int.reduceEq, gd_t, gd_T, ↓bd_m, ↓lh_t, ↓on_m, ↓ec_m, ↓reduceIte, if_true, if_false, true_and, and_true, false_and, and_false, true_or, or_true, false_or, or_false, Bool.false_eq_true, b2i_0, b2i_1, bl_0, bl_1, bl_b2, not_true_eq_false, not_false_eq_true, B_X8_layPaid_40, e0, ng]
        have ih' := fun g' a1 a2 => ih (g', m, iI t, iI tank, iI ((d : Int) - 1)) d (by omega) ⟨g', d, rfl, by omega, rfl, a1, a2⟩
        clear ih
        unfold G_X8_layPaid_48
        refine lp_ok (fun s k => ∃ (g : AH) (i : Nat), s = (g, m, iI t, iI tank, iI d, iI i) ∧ i ≤ tank + 1 ∧ k = tank + 1 - i ∧ tf (fun a => a = m + 17) h g ∧ ptT g m n tank N (d + 1) ∧ ∀ i', i' < i → hI g (m + 17) (13 * d + i') = iI (pdS N n tank (n - d) i')) ?_ fuel (tank + 1) _ ⟨g, 0, rfl, by omega, by omega, T1, P1, fun i' hi' => by omega⟩ (lt_fuel (by omega))
        clear T1 P1
        rintro self s k ⟨g, i, rfl, h2, rfl, T1, P1, f1⟩ ih
        unfold L_X8_layPaid_48
        by_cases hi : (tank : Int) < (i : Int)
        · simp (disch := omega) only [i_lit, i_neg, i_add, i_sub, i_mul, i_ofNat, i_div, i_le, i_lt, i_eq, i_ix, i_inb, i_max, i_min, e_rem, j_lit, j_i, Int.reduceToNat, Int.reduceAdd, Int.reduceSub, Int.reduceMul, Int.reduceNeg, Int.reduceLT, Int.reduceLE, Int.reduceEq, gd_t, gd_T, ↓bd_m, ↓lh_t, ↓on_m, ↓ec_m, ↓reduceIte, if_true, if_false, true_and, and_true, false_and, and_false, true_or, or_true, false_or, or_false, Bool.false_eq_true, b2i_0, b2i_1, bl_0, bl_1, bl_b2, not_true_eq_false, not_false_eq_true, B_X8_layPaid_48, B_X8_layPaid_154, hi]
          rw [← Int.sub_eq_add_neg]
          refine ih' g T1 (fun d' i' q1 q2 q3 => ?_)
          by_cases q : d' = d
          · subst q; exact f1 i' (by omega)
          · exact P1 d' i' (by omega) q2 q3
        · simp (disch := omega) only [i_lit, i_neg, i_add, i_sub, i_mul, i_ofNat, i_div, i_le, i_lt, i_eq, i_ix, i_inb, i_max, i_min, e_rem, j_lit, j_i, Int.reduceToNat, Int.reduceAdd, Int.reduceSub, Int.reduceMul, Int.reduceNeg, Int.reduceLT, Int.reduceLE, Int.reduceEq, gd_t, gd_T, ↓bd_m, ↓lh_t, ↓on_m, ↓ec_m, ↓reduceIte, if_true, if_false, true_and, and_true, false_and, and_false, true_or, or_true, false_or, or_false, Bool.false_eq_true, b2i_0, b2i_1, bl_0, bl_1, bl_b2, not_true_eq_false, not_false_eq_true, B_X8_layPaid_48, hi]
          rw [show max 1 (i : Int) = ((max 1 i : Nat) : Int) by omega]
          unfold G_X8_layPaid_65
          have nj : n - d = (n - (d + 1)) + 1 := by omega
          have ed : n - 1 - (n - (d + 1)) = d := by omega
          refine lp_ok (fun s k => ∃ (b : Int) (to : Nat), s = (g, m, iI t, iI tank, iI d, iI i, iI b, iI to) ∧ max 1 i ≤ to ∧ to ≤ tank + 1 ∧ k = tank + 1 - to ∧ (b = -1 ∨ (0 ≤ b ∧ b ≤ 40000)) ∧ itr (pdF N d (pdS N n tank (n - (d + 1))) i) (tank + 1 - to) to b = pdS N n tank (n - d) i) ?_ fuel (tank + 1 - max 1 i) _ ⟨-1, max 1 i, rfl, by omega, by omega, rfl, Or.inl rfl, by rw [nj]; show _ = itr _ _ _ _; rw [ed]⟩ (lt_fuel (by omega))
          rintro self3 s k ⟨b, to, rfl, k1, k2, rfl, k4, k5⟩ ih3
          have Zg := Z.fr T1
          have ts := Zg.1
          have vN := Zg.2.2.2.2.1 d (by omega)
          have hNd := hN d (by omega)
          unfold L_X8_layPaid_65
          by_cases hto : (tank : Int) < (to : Int)
          · have y : (13 * (d : Int) + (i : Int)).toNat = 13 * d + i := by omega
            rw [show tank + 1 - to = 0 by omega] at k5
            have k5 : b = pdS N n tank (n - d) i := k5
            simp (disch := omega) only [i_lit, i_neg, i_add, i_sub, i_mul, i_ofNat, i_div, i_le, i_lt, i_eq, i_ix, i_inb, i_max, i_min, e_rem, j_lit, j_i, Int.reduceToNat, Int.reduceAdd, Int.reduceSub, Int.reduceMul, Int.reduceNeg, Int.reduceLT, Int.reduceLE, Int.reduceEq, gd_t, gd_T, ↓bd_m, ↓on_m, ↓ec_m, ↓reduceIte, if_true, if_false, true_and, and_true, false_and, and_false, true_or, or_true, false_or, or_false, Bool.false_eq_true, b2i_0, b2i_1, bl_0, bl_1, bl_b2, not_true_eq_false, not_false_eq_true, B_X8_layPaid_65, B_X8_layPaid_133, hto, ts.k, ts.r1, ts.k1, ts.l1, ts.r2, ts.k2, ts.l2, ts.r3, ts.k3, ts.l3, ts.r4, ts.k4, ts.l4, ts.r5, ts.k5, ts.l5, ts.r6, ts.k6, ts.l6, ts.r7, ts.k7, ts.l7, ts.r8, ts.k8, ts.l8, ts.r9, ts.k9, ts.l9, ts.r10, ts.k10, ts.l10, ts.r11, ts.k11, ts.l11, ts.r12, ts.k12, ts.l12, ts.r13, ts.k13, ts.l13, ts.r14, ts.k14, ts.l14, ts.r15, ts.k15, ts.l15, ts.r16, ts.k16, ts.l16, ts.r17, ts.k17, ts.l17, ts.r18, ts.k18, ts.l18, ts.r19, ts.k19, ts.l19, ts.r20, ts.k20, ts.l20, y]
            refine fw2 T1 rfl (fun g2 T2 u2 d2 _ => ?_)
            have nx := ih (g2, m, iI t, iI tank, iI d, iI ((i + 1 : Nat) : Int)) (tank + 1 - (i + 1)) (by omega) ⟨g2, i + 1, rfl, by omega, rfl, T2, fun d' i' q1 q2 q3 => by rw [d2 _ _ (by omega)]; exact P1 d' i' q1 q2 q3, fun i' hi' => ?_⟩
            · rw [show (((i + 1 : Nat)) : Int) = (i : Int) + 1 by omega] at nx
              simp (disch := omega) only [i_lit, i_neg, i_add, i_sub, i_mul, i_ofNat, i_div, i_le, i_lt, i_eq, i_ix, i_inb, i_max, i_min, e_rem, j_lit, j_i, Int.reduceToNat, Int.reduceAdd, Int.reduceSub, Int.reduceMul, Int.reduceNeg, Int.reduceLT, Int.reduceLE, Int.reduceEq, gd_t, gd_T, ↓bd_m, ↓lh_t, ↓on_m, ↓ec_m, ↓reduceIte, if_true, if_false, true_and, and_true, false_and, and_false, true_or, or_true, false_or, or_false, Bool.false_eq_true, b2i_0, b2i_1, bl_0, bl_1, bl_b2, not_true_eq_false, not_false_eq_true, B_X8_layPaid_148]
              exact nx
            · by_cases q : i' = i
              · subst q; rw [u2, k5]
              · rw [d2 _ _ (by omega)]; exact f1 i' (by omega)
          · have y1 : (28 * (t : Int) + (d : Int)).toNat = 28 * t + d := by omega
            have y2 : (13 * ((d : Int) + 1) + (to : Int) - 1).toNat = 13 * (d + 1) + (to - 1) := by omega
            have pv := P1 (d + 1) (to - 1) (by omega) (by omega) (by omega)
            have pb := pdS_b hN ht (n - (d + 1)) (by omega) (to - 1) (by omega)
            have mb := mul_c (a := (to : Int) - (i : Int)) (b := N d) (by omega) hNd
            have nj28 : ((n - (d + 1) : Nat) : Int) ≤ 28 := by omega
            have V : pdV N d (pdS N n tank (n - (d + 1))) i to = ((to : Int) - (i : Int)) * N d + pdS N n tank (n - (d + 1)) (to - 1) := rfl
            rw [show tank + 1 - to = (tank + 1 - (to + 1)) + 1 by omega, itr] at k5
            have nx : ∀ b' : Int, (b' = -1 ∨ (0 ≤ b' ∧ b' ≤ 40000)) → pdF N d (pdS N n tank (n - (d + 1))) i to b = b' → Ok1 (self3 (g, m, iI t, iI tank, iI d, iI i, iI b', iI ((to + 1 : Nat) : Int))) (fun g' => tf (fun a => a = m + 17) h g' ∧ ptT g' m n tank N 0) := fun b' hb' hf => ih3 _ (tank + 1 - (to + 1)) (by omega) ⟨b', to + 1, rfl, by omega, by omega, rfl, hb', by rw [← k5, hf]⟩
            rw [show (((to + 1 : Nat)) : Int) = (to : Int) + 1 by omega] at nx
            unfold pdF at nx
            rw [V] at nx
            clear V
            generalize hMU : ((to : Int) - (i : Int)) * N d = MU at mb nx
            generalize pdS N n tank (n - (d + 1)) (to - 1) = PV at pv pb nx
            by_cases q1 : b = -1
            · have qT : (b = -1) = True := eq_true q1
              rw [if_pos q1] at nx
              simp (disch := omega) only [i_lit, i_neg, i_add, i_sub, i_mul, i_ofNat, i_div, i_le, i_lt, i_eq, i_ix, i_inb, i_max, i_min, e_rem, j_lit, j_i, Int.reduceToNat, Int.reduceAdd, Int.reduceSub, Int.reduceMul, Int.reduceNeg, Int.reduceLT, Int.reduceLE, Int.reduceEq, gd_t, gd_T, ↓bd_m, ↓lh_t, ↓on_m, ↓ec_m, ↓reduceIte, if_true, if_false, true_and, and_true, false_and, and_false, true_or, or_true, false_or, or_false, Bool.false_eq_true, b2i_0, b2i_1, bl_0, bl_1, bl_b2, not_true_eq_false, not_false_eq_true, B_X8_layPaid_65, B_X8_layPaid_123, B_X8_layPaid_127, hto, ts.k, ts.r1, ts.k1, ts.l1, ts.r2, ts.k2, ts.l2, ts.r3, ts.k3, ts.l3, ts.r4, ts.k4, ts.l4, ts.r5, ts.k5, ts.l5, ts.r6, ts.k6, ts.l6, ts.r7, ts.k7, ts.l7, ts.r8, ts.k8, ts.l8, ts.r9, ts.k9, ts.l9, ts.r10, ts.k10, ts.l10, ts.r11, ts.k11, ts.l11, ts.r12, ts.k12, ts.l12, ts.r13, ts.k13, ts.l13, ts.r14, ts.k14, ts.l14, ts.r15, ts.k15, ts.l15, ts.r16, ts.k16, ts.l16, ts.r17, ts.k17, ts.l17, ts.r18, ts.k18, ts.l18, ts.r19, ts.k19, ts.l19, ts.r20, ts.k20, ts.l20, y1, y2, vN, j_i32, pv, hMU, qT]
              exact nx _ (Or.inr (by omega)) rfl
            · have qT : (b = -1) = False := eq_false q1
              rw [if_neg q1] at nx
              by_cases q2 : b ≤ MU + PV
              · rw [if_pos q2] at nx
                simp (disch := omega) only [i_lit, i_neg, i_add, i_sub, i_mul, i_ofNat, i_div, i_le, i_lt, i_eq, i_ix, i_inb, i_max, i_min, e_rem, j_lit, j_i, Int.reduceToNat, Int.reduceAdd, Int.reduceSub, Int.reduceMul, Int.reduceNeg, Int.reduceLT, Int.reduceLE, Int.reduceEq, gd_t, gd_T, ↓bd_m, ↓lh_t, ↓on_m, ↓ec_m, ↓reduceIte, if_true, if_false, true_and, and_true, false_and, and_false, true_or, or_true, false_or, or_false, Bool.false_eq_true, b2i_0, b2i_1, bl_0, bl_1, bl_b2, not_true_eq_false, not_false_eq_true, B_X8_layPaid_65, B_X8_layPaid_127, hto, ts.k, ts.r1, ts.k1, ts.l1, ts.r2, ts.k2, ts.l2, ts.r3, ts.k3, ts.l3, ts.r4, ts.k4, ts.l4, ts.r5, ts.k5, ts.l5, ts.r6, ts.k6, ts.l6, ts.r7, ts.k7, ts.l7, ts.r8, ts.k8, ts.l8, ts.r9, ts.k9, ts.l9, ts.r10, ts.k10, ts.l10, ts.r11, ts.k11, ts.l11, ts.r12, ts.k12, ts.l12, ts.r13, ts.k13, ts.l13, ts.r14, ts.k14, ts.l14, ts.r15, ts.k15, ts.l15, ts.r16, ts.k16, ts.l16, ts.r17, ts.k17, ts.l17, ts.r18, ts.k18, ts.l18, ts.r19, ts.k19, ts.l19, ts.r20, ts.k20, ts.l20, y1, y2, vN, j_i32, pv, hMU, qT, q2]
                exact nx _ k4 rfl
              · rw [if_neg q2] at nx
                simp (disch := omega) only [i_lit, i_neg, i_add, i_sub, i_mul, i_ofNat, i_div, i_le, i_lt, i_eq, i_ix, i_inb, i_max, i_min, e_rem, j_lit, j_i, Int.reduceToNat, Int.reduceAdd, Int.reduceSub, Int.reduceMul, Int.reduceNeg, Int.reduceLT, Int.reduceLE, Int.reduceEq, gd_t, gd_T, ↓bd_m, ↓lh_t, ↓on_m, ↓ec_m, ↓reduceIte, if_true, if_false, true_and, and_true, false_and, and_false, true_or, or_true, false_or, or_false, Bool.false_eq_true, b2i_0, b2i_1, bl_0, bl_1, bl_b2, not_true_eq_false, not_false_eq_true, B_X8_layPaid_65, B_X8_layPaid_123, B_X8_layPaid_127, hto, ts.k, ts.r1, ts.k1, ts.l1, ts.r2, ts.k2, ts.l2, ts.r3, ts.k3, ts.l3, ts.r4, ts.k4, ts.l4, ts.r5, ts.k5, ts.l5, ts.r6, ts.k6, ts.l6, ts.r7, ts.k7, ts.l7, ts.r8, ts.k8, ts.l8, ts.r9, ts.k9, ts.l9, ts.r10, ts.k10, ts.l10, ts.r11, ts.k11, ts.l11, ts.r12, ts.k12, ts.l12, ts.r13, ts.k13, ts.l13, ts.r14, ts.k14, ts.l14, ts.r15, ts.k15, ts.l15, ts.r16, ts.k16, ts.l16, ts.r17, ts.k17, ts.l17, ts.r18, ts.k18, ts.l18, ts.r19, ts.k19, ts.l19, ts.r20, ts.k20, ts.l20, y1, y2, vN, j_i32, pv, hMU, qT, q2]
                exact nx _ (Or.inr (by omega)) rfl
    · have y : (13 * (n : Int) + (i : Int)).toNat = 13 * n + i := by omega
      simp (disch := omega) only [i_lit, i_neg, i_add, i_sub, i_mul, i_ofNat, i_div, i_le, i_lt, i_eq, i_ix, i_inb, i_max, i_min, e_rem, j_lit, j_i, Int.reduceToNat, Int.reduceAdd, Int.reduceSub, Int.reduceMul, Int.reduceNeg, Int.reduceLT, Int.reduceLE, Int.reduceEq, gd_t, gd_T, ↓bd_m, ↓on_m, ↓ec_m, ↓reduceIte, if_true, if_false, true_and, and_true, false_and, and_false, true_or, or_true, false_or, or_false, Bool.false_eq_true, b2i_0, b2i_1, bl_0, bl_1, bl_b2, not_true_eq_false, not_false_eq_true, B_X8_layPaid_10, ho, ts.k, ts.r1, ts.k1, ts.l1, ts.r2, ts.k2, ts.l2, ts.r3, ts.k3, ts.l3, ts.r4, ts.k4, ts.l4, ts.r5, ts.k5, ts.l5, ts.r6, ts.k6, ts.l6, ts.r7, ts.k7, ts.l7, ts.r8, ts.k8, ts.l8, ts.r9, ts.k9, ts.l9, ts.r10, ts.k10, ts.l10, ts.r11, ts.k11, ts.l11, ts.r12, ts.k12, ts.l12, ts.r13, ts.k13, ts.l13, ts.r14, ts.k14, ts.l14, ts.r15, ts.k15, ts.l15, ts.r16, ts.k16, ts.l16, ts.r17, ts.k17, ts.l17, ts.r18, ts.k18, ts.l18, ts.r19, ts.k19, ts.l19, ts.r20, ts.k20, ts.l20, y]
      refine fw2 T1 rfl (fun g2 T2 u2 d2 _ => ?_)
      have nx := ih (g2, m, iI t, iI tank, iI n, iI ((i + 1 : Nat) : Int)) (tank + 1 - (i + 1)) (by omega) ⟨g2, i + 1, rfl, by omega, rfl, T2, fun i' hi' => ?_⟩
      · rw [show (((i + 1 : Nat)) : Int) = (i : Int) + 1 by omega] at nx
        simp (disch := omega) only [i_lit, i_neg, i_add, i_sub, i_mul, i_ofNat, i_div, i_le, i_lt, i_eq, i_ix, i_inb, i_max, i_min, e_rem, j_lit, j_i, Int.reduceToNat, Int.reduceAdd, Int.reduceSub, Int.reduceMul, Int.reduceNeg, Int.reduceLT, Int.reduceLE, Int.reduceEq, gd_t, gd_T, ↓bd_m, ↓lh_t, ↓on_m, ↓ec_m, ↓reduceIte, if_true, if_false, true_and, and_true, false_and, and_false, true_or, or_true, false_or, or_false, Bool.false_eq_true, b2i_0, b2i_1, bl_0, bl_1, bl_b2, not_true_eq_false, not_false_eq_true, B_X8_layPaid_29]
        exact nx
      · by_cases q : i' = i
        · subst q; exact u2
        · rw [d2 _ _ (by omega)]; exact f1 i' (by omega)
  obtain ⟨g', k1, k2, k3⟩ := key
  exact ⟨g', k1, k2, k3⟩
