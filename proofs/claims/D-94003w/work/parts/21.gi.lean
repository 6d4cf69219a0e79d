/-! PURE GI: learners -/
set_option maxRecDepth 100000
def lrn (v g k : Int32) : Int32 := v + (((iI 8 * g) + ((iI 7 * k) / iI 8)) - v) / iI 8
theorem learntC (h : AH) (a : Nat) (v g k : Int32) : F_X6_learnt h a v g k = some (lrn v g k) := Eq.refl _
theorem teachT {gT0 gT : AH} {m : Nat} {τ : Nat → Int} {A B : Nat → Nat → Int} (GT : GTT gT0 m τ A B) (T : tf (MP m) gT0 gT) {w row own nr best : Nat} (hw : w ≤ 1) (h1 : row < 8) (h2 : own < 8) (h3 : nr < 8) (h4 : best < 8) (G : Int32) (e : F_X8_greatest gT m (iI w) (iI nr) = some (iI best)) : ∃ gT', F_X8_teaches gT m (iI w) (iI row) (iI own) G (iI nr) = some gT' ∧ tf (MP m) gT0 gT' ∧ hI gT' (m + 16) (64 * w + 8 * row + own) = lrn (hI gT (m + 16) (64 * w + 8 * row + own)) G (hI gT (m + 16) (64 * w + 8 * nr + best)) ∧ (∀ c j, ¬ (c = m + 16 ∧ j = 64 * w + 8 * row + own) → hI gT' c j = hI gT c j) ∧ hJ gT' = hJ gT := by
  have ts := (GT.frL T).1.s
  have y1 : (64 * (w : Int) + 8 * (row : Int) + (own : Int)).toNat = 64 * w + 8 * row + own := by omega
  have y2 : (64 * (w : Int) + 8 * (nr : Int) + (best : Int)).toNat = 64 * w + 8 * nr + best := by omega
  have key : Ok1 (F_X8_teaches gT m (iI w) (iI row) (iI own) G (iI nr)) (fun gT' => tf (MP m) gT0 gT' ∧ hI gT' (m + 16) (64 * w + 8 * row + own) = lrn (hI gT (m + 16) (64 * w + 8 * row + own)) G (hI gT (m + 16) (64 * w + 8 * nr + best)) ∧ (∀ c j, ¬ (c = m + 16 ∧ j = 64 * w + 8 * row + own) → hI gT' c j = hI gT c j) ∧ hJ gT' = hJ gT) := by
    unfold F_X8_teaches
    simp (disch := omega) only [i_lit, i_neg, i_add, i_sub, i_mul, i_ofNat, i_div, i_le, i_lt, i_eq, i_ix, i_inb, i_max, i_min, e_rem, j_lit, j_i, Int.reduceToNat, Int.reduceAdd, Int.reduceSub, Int.reduceMul, Int.reduceNeg, Int.reduceLT, Int.reduceLE, Int.reduceEq, gd_t, gd_T, ↓bd_m, ↓on_m, ↓ec_m, ↓reduceIte, if_true, if_false, true_and, and_true, false_and, and_false, true_or, or_true, false_or, or_false, Bool.false_eq_true, b2i_0, b2i_1, bl_0, bl_1, bl_b2, not_true_eq_false, not_false_eq_true, ts.k, ts.r1, ts.k1, ts.l1, ts.r2, ts.k2, ts.l2, ts.r3, ts.k3, ts.l3, ts.r4, ts.k4, ts.l4, ts.r5, ts.k5, ts.l5, ts.r6, ts.k6, ts.l6, ts.r7, ts.k7, ts.l7, ts.r8, ts.k8, ts.l8, ts.r9, ts.k9, ts.l9, ts.r10, ts.k10, ts.l10, ts.r11, ts.k11, ts.l11, ts.r12, ts.k12, ts.l12, ts.r13, ts.k13, ts.l13, ts.r14, ts.k14, ts.l14, ts.r15, ts.k15, ts.l15, ts.r16, ts.k16, ts.l16, ts.r17, ts.k17, ts.l17, ts.r18, ts.k18, ts.l18, ts.r19, ts.k19, ts.l19, ts.r20, ts.k20, ts.l20, e, y1, y2]
    refine fw2 T (Or.inr rfl) (fun g' T' u d j => ?_)
    exact Ok1.some ⟨T', u, d, j⟩
  obtain ⟨r, k1, k2⟩ := key
  exact ⟨r, k1, k2⟩
theorem LB.tA {g0 gT0 g gT g' gT' : AH} {z m : Nat} (L : LB g0 gT0 g gT z m) {i j : Nat} (hi : i < 8) (hj : j < 8) {v : Int32} (T1 : tf (LrP z) g0 g') (u1 : hI g' (z + 422 + i) j = v) (d1 : ∀ c k, ¬ (c = z + 422 + i ∧ k = j) → hI g' c k = hI g c k) (T2 : tf (MP m) gT0 gT') (u2 : hI gT' (m + 16) (8 * i + j) = v) (d2 : ∀ c k, ¬ (c = m + 16 ∧ k = 8 * i + j) → hI gT' c k = hI gT c k) (j2 : hJ gT' = hJ gT) : LB g0 gT0 g' gT' z m := by
  obtain ⟨_, _, f1, f2, f3, f4⟩ := L
  refine ⟨T1, T2, fun k h1 h2 h3 => by rw [d2 _ _ (by omega)]; exact f1 k h1 h2 h3, by rw [j2]; exact f2, fun i' j' hi' hj' => ⟨?_, ?_⟩, by rw [d1 _ _ (by omega), d2 _ _ (by omega)]; exact f4⟩
  · by_cases q : i' = i ∧ j' = j
    · rw [q.1, q.2, u1, u2]
    · rw [d1 _ _ (by omega), d2 _ _ (by omega)]
      exact (f3 i' j' hi' hj').1
  · rw [d1 _ _ (by omega), d2 _ _ (by omega)]
    exact (f3 i' j' hi' hj').2
theorem LB.tB {g0 gT0 g gT g' gT' : AH} {z m : Nat} (L : LB g0 gT0 g gT z m) {i j : Nat} (hi : i < 8) (hj : j < 8) {v : Int32} (T1 : tf (LrP z) g0 g') (u1 : hI g' (z + 431 + i) j = v) (d1 : ∀ c k, ¬ (c = z + 431 + i ∧ k = j) → hI g' c k = hI g c k) (T2 : tf (MP m) gT0 gT') (u2 : hI gT' (m + 16) (64 + 8 * i + j) = v) (d2 : ∀ c k, ¬ (c = m + 16 ∧ k = 64 + 8 * i + j) → hI gT' c k = hI gT c k) (j2 : hJ gT' = hJ gT) : LB g0 gT0 g' gT' z m := by
  obtain ⟨_, _, f1, f2, f3, f4⟩ := L
  refine ⟨T1, T2, fun k h1 h2 h3 => by rw [d2 _ _ (by omega)]; exact f1 k h1 h2 h3, by rw [j2]; exact f2, fun i' j' hi' hj' => ⟨?_, ?_⟩, by rw [d1 _ _ (by omega), d2 _ _ (by omega)]; exact f4⟩
  · rw [d1 _ _ (by omega), d2 _ _ (by omega)]
    exact (f3 i' j' hi' hj').1
  · by_cases q : i' = i ∧ j' = j
    · rw [q.1, q.2, u1, u2]
    · rw [d1 _ _ (by omega), d2 _ _ (by omega)]
      exact (f3 i' j' hi' hj').2
/-- where they stand is told anew -/
theorem LB.st {g0 gT0 g gT g1 gT1 g2 gT2 : AH} {z m a b : Nat} (L : LB g0 gT0 g gT z m) (T1 : tf (LrP z) g0 g2) (u1 : hI g1 (z + 420) 3 = iI a) (d1 : ∀ c k, ¬ (c = z + 420 ∧ k = 3) → hI g1 c k = hI g c k) (u2 : hI g2 (z + 420) 4 = iI b) (d2 : ∀ c k, ¬ (c = z + 420 ∧ k = 4) → hI g2 c k = hI g1 c k) (T2 : tf (MP m) gT0 gT2) (v1 : hI gT1 m 34 = iI a) (e1 : ∀ c k, ¬ (c = m ∧ k = 34) → hI gT1 c k = hI gT c k) (j1 : hJ gT1 = hJ gT) (v2 : hI gT2 m 35 = iI b) (e2 : ∀ c k, ¬ (c = m ∧ k = 35) → hI gT2 c k = hI gT1 c k) (j2 : hJ gT2 = hJ gT1) : LB g0 gT0 g2 gT2 z m ∧ LA g2 gT2 z m a b := by
  obtain ⟨_, _, f1, f2, f3, f4⟩ := L
  refine ⟨⟨T1, T2, fun k h1 h2 h3 => by rw [e2 _ _ (by omega), e1 _ _ (by omega)]; exact f1 k h1 h2 h3, by rw [j2, j1]; exact f2, fun i' j' hi' hj' => ?_, by rw [d2 _ _ (by omega), d1 _ _ (by omega), e2 _ _ (by omega), e1 _ _ (by omega)]; exact f4⟩, ?_, ?_, u2, v2⟩
  · rw [d2 _ _ (by omega), d1 _ _ (by omega), d2 _ _ (by omega), d1 _ _ (by omega), e2 _ _ (by omega), e1 _ _ (by omega), e2 _ _ (by omega), e1 _ _ (by omega)]
    exact f3 i' j' hi' hj'
  · rw [d2 _ _ (by omega)]; exact u1
  · rw [e2 _ _ (by omega)]; exact v1
/-- how learners end -/
def LEn (g0 gT0 : AH) (z m : Nat) (n : Int) (a : Int32 × AH) (b : AH) : Prop := LB g0 gT0 a.2 b z m ∧ ∃ p q : Nat, (p : Int) < n ∧ (q : Int) < n ∧ LA a.2 b z m p q ∧ a.1 = iI (10 * (p : Int) + q)
theorem last_run {g0 gT0 g gT : AH} {z x m : Nat} {τ : Nat → Int} {A B : Nat → Nat → Int} (GC : GTC g0 z x (τ 3) A B) (GT : GTT gT0 m τ A B) (hx : ¬ (z + 269 ≤ x ∧ x ≤ z + 495)) (hn1 : 1 ≤ τ 3) (L : LB g0 gT0 g gT z m) {a b : Nat} (La : LA g gT z m a b) (ha : (a : Int) < τ 3) (hb : (b : Int) < τ 3) : Ok2 (G_X6_goes_287 g (z + 420) (iI 0)) (G_X8_learns_157 gT m (iI 0)) (LEn g0 gT0 z m (τ 3)) := by
  have hl8 := GT.2.1
  unfold G_X6_goes_287 G_X8_learns_157
  refine lp_ok2 (fun s u k => ∃ (g gT : AH) (a b i : Nat), s = (g, z + 420, iI i) ∧ u = (gT, m, iI i) ∧ i ≤ 10 ∧ k = 10 - i ∧ LB g0 gT0 g gT z m ∧ LA g gT z m a b ∧ (a : Int) < τ 3 ∧ (b : Int) < τ 3) ?_ fuel 10 _ _ ⟨g, gT, a, b, 0, rfl, rfl, by omega, by omega, L, La, ha, hb⟩ (lt_fuel (by omega))
  clear L La ha hb
  rintro f1 f2 s u k ⟨g, gT, a, b, i, rfl, rfl, h1, rfl, L, La, ha, hb⟩ ih
  have c := GC.frL hx L.1
  have cs := c.1
  have t := GT.frL L.2.1
  have ts := t.1.s
  obtain ⟨l1, l2, l3, l4⟩ := La
  unfold L_X6_goes_287 L_X8_learns_157
  by_cases ho : 10 ≤ (i : Int)
  · simp (disch := omega) only [i_lit, i_neg, i_add, i_sub, i_mul, i_ofNat, i_div, i_le, i_lt, i_eq, i_ix, i_inb, i_max, i_min, e_rem, j_lit, j_i, Int.reduceToNat, Int.reduceAdd, Int.reduceSub, Int.reduceMul, Int.reduceNeg, Int.reduceLT, Int.reduceLE, Int.reduceEq, gd_t, gd_T, ↓bd_m, ↓on_m, ↓ec_m, ↓reduceIte, if_true, if_false, true_and, and_true, false_and, and_false, true_or, or_true, false_or, or_false, Bool.false_eq_true, b2i_0, b2i_1, bl_0, bl_1, bl_b2, not_true_eq_false, not_false_eq_true, B_X6_goes_287, B_X6_goes_341, B_X8_learns_157, ho, cs.k420, l1, l3]
    exact Ok2.some ⟨L, a, b, ha, hb, ⟨l1, l2, l3, l4⟩, rfl⟩
  · obtain ⟨p, p1, p2, p3⟩ := grt_at GC GT hx hn1 L (w := 0) (i := b) (by omega) (by omega)
    obtain ⟨q, q1, q2, q3⟩ := grt_at GC GT hx hn1 L (w := 1) (i := a) (by omega) (by omega)
    have p2 : F_X6_greatest g (z + 420) (z + 422 + b) = some (iI p) := p2
    have q2 : F_X6_greatest g (z + 420) (z + 431 + a) = some (iI q) := q2
    have p3 : F_X8_greatest gT m (iI 0) (iI b) = some (iI p) := p3
    have q3 : F_X8_greatest gT m (iI 1) (iI a) = some (iI q) := q3
    have wA := cs.w421 b (by omega)
    have wB := cs.w430 a (by omega)
    simp (disch := omega) only [i_lit, i_neg, i_add, i_sub, i_mul, i_ofNat, i_div, i_le, i_lt, i_eq, i_ix, i_inb, i_max, i_min, e_rem, j_lit, j_i, Int.reduceToNat, Int.reduceAdd, Int.reduceSub, Int.reduceMul, Int.reduceNeg, Int.reduceLT, Int.reduceLE, Int.reduceEq, gd_t, gd_T, ↓bd_m, ↓on_m, ↓ec_m, ↓reduceIte, if_true, if_false, true_and, and_true, false_and, and_false, true_or, or_true, false_or, or_false, Bool.false_eq_true, b2i_0, b2i_1, bl_0, bl_1, bl_b2, not_true_eq_false, not_false_eq_true, B_X6_goes_287, B_X8_learns_157, ho, cs.k420, cs.ra, cs.k421, cs.l421, cs.rb, cs.k430, cs.l430, wA.1, wB.1, l1, l2, l3, l4, p2, q2, ts.k, ts.r1, ts.k1, ts.l1, ts.r2, ts.k2, ts.l2, ts.r3, ts.k3, ts.l3, ts.r4, ts.k4, ts.l4, ts.r5, ts.k5, ts.l5, ts.r6, ts.k6, ts.l6, ts.r7, ts.k7, ts.l7, ts.r8, ts.k8, ts.l8, ts.r9, ts.k9, ts.l9, ts.r10, ts.k10, ts.l10, ts.r11, ts.k11, ts.l11, ts.r12, ts.k12, ts.l12, ts.r13, ts.k13, ts.l13, ts.r14, ts.k14, ts.l14, ts.r15, ts.k15, ts.l15, ts.r16, ts.k16, ts.l16, ts.r17, ts.k17, ts.l17, ts.r18, ts.k18, ts.l18, ts.r19, ts.k19, ts.l19, ts.r20, ts.k20, ts.l20, p3, q3, Int.toNat_natCast]
    have PL : LrP z (z + 420) := by unfold LrP; omega
    have PM : MP m m := Or.inl rfl
    refine fwL L.1 PL (fun g1 T1 u1 d1 _ => ?_)
    refine fwR L.2.1 PM (fun gT1 U1 v1 e1 j1 => ?_)
    have k1 : hK g1 (z + 420) = 6 := (GC.frL hx T1).1.k420
    have ts1 := (GT.frL U1).1.s
    simp (disch := omega) only [i_lit, i_neg, i_add, i_sub, i_mul, i_ofNat, i_div, i_le, i_lt, i_eq, i_ix, i_inb, i_max, i_min, e_rem, j_lit, j_i, Int.reduceToNat, Int.reduceAdd, Int.reduceSub, Int.reduceMul, Int.reduceNeg, Int.reduceLT, Int.reduceLE, Int.reduceEq, gd_t, gd_T, ↓bd_m, ↓on_m, ↓ec_m, ↓reduceIte, if_true, if_false, true_and, and_true, false_and, and_false, true_or, or_true, false_or, or_false, Bool.false_eq_true, b2i_0, b2i_1, bl_0, bl_1, bl_b2, not_true_eq_false, not_false_eq_true, B_X6_goes_329, B_X8_learns_191, k1, ts1.k, ts1.r1, ts1.k1, ts1.l1, ts1.r2, ts1.k2, ts1.l2, ts1.r3, ts1.k3, ts1.l3, ts1.r4, ts1.k4, ts1.l4, ts1.r5, ts1.k5, ts1.l5, ts1.r6, ts1.k6, ts1.l6, ts1.r7, ts1.k7, ts1.l7, ts1.r8, ts1.k8, ts1.l8, ts1.r9, ts1.k9, ts1.l9, ts1.r10, ts1.k10, ts1.l10, ts1.r11, ts1.k11, ts1.l11, ts1.r12, ts1.k12, ts1.l12, ts1.r13, ts1.k13, ts1.l13, ts1.r14, ts1.k14, ts1.l14, ts1.r15, ts1.k15, ts1.l15, ts1.r16, ts1.k16, ts1.l16, ts1.r17, ts1.k17, ts1.l17, ts1.r18, ts1.k18, ts1.l18, ts1.r19, ts1.k19, ts1.l19, ts1.r20, ts1.k20, ts1.l20]
    refine fwL T1 PL (fun g2 T2 u2 d2 _ => ?_)
    refine fwR U1 PM (fun gT2 U2 v2 e2 j2 => ?_)
    obtain ⟨L2, La2⟩ := L.st T2 u1 d1 u2 d2 U2 v1 e1 j1 v2 e2 j2
    have nx := ih (g2, z + 420, iI ((i + 1 : Nat) : Int)) (gT2, m, iI ((i + 1 : Nat) : Int)) (10 - (i + 1)) (by omega) ⟨g2, gT2, p, q, i + 1, rfl, rfl, by omega, rfl, L2, La2, p1, q1⟩
    rw [show (((i + 1 : Nat)) : Int) = (i : Int) + 1 by omega] at nx
    simp (disch := omega) only [i_lit, i_neg, i_add, i_sub, i_mul, i_ofNat, i_div, i_le, i_lt, i_eq, i_ix, i_inb, i_max, i_min, e_rem, j_lit, j_i, Int.reduceToNat, Int.reduceAdd, Int.reduceSub, Int.reduceMul, Int.reduceNeg, Int.reduceLT, Int.reduceLE, Int.reduceEq, gd_t, gd_T, ↓bd_m, ↓on_m, ↓ec_m, ↓reduceIte, if_true, if_false, true_and, and_true, false_and, and_false, true_or, or_true, false_or, or_false, Bool.false_eq_true, b2i_0, b2i_1, bl_0, bl_1, bl_b2, not_true_eq_false, not_false_eq_true, B_X6_goes_335, B_X8_learns_197]
    exact nx
theorem night_run {g0 gT0 g gT : AH} {z x m : Nat} {τ : Nat → Int} {A B : Nat → Nat → Int} (GC : GTC g0 z x (τ 3) A B) (GT : GTT gT0 m τ A B) (hx : ¬ (z + 269 ≤ x ∧ x ≤ z + 495)) (hn1 : 1 ≤ τ 3) (L : LB g0 gT0 g gT z m) {a b : Nat} (La : LA g gT z m a b) (ha : (a : Int) < τ 3) (hb : (b : Int) < τ 3) {N : Nat} (hN : 1 ≤ N ∧ N ≤ 2000) : Ok2 (G_X6_goes_89 g (z + 420) (iI N) (iI 0)) (G_X8_learns_51 gT m (iI N) (iI 0)) (LEn g0 gT0 z m (τ 3)) := by
  have hl8 := GT.2.1
  unfold G_X6_goes_89 G_X8_learns_51
  refine lp_ok2 (fun s u k => ∃ (g gT : AH) (a b t : Nat), s = (g, z + 420, iI N, iI t) ∧ u = (gT, m, iI N, iI t) ∧ t ≤ N ∧ k = N - t ∧ LB g0 gT0 g gT z m ∧ LA g gT z m a b ∧ (a : Int) < τ 3 ∧ (b : Int) < τ 3) ?_ fuel N _ _ ⟨g, gT, a, b, 0, rfl, rfl, by omega, by omega, L, La, ha, hb⟩ (lt_fuel (by omega))
  clear L La ha hb
  rintro f1 f2 s u k ⟨g, gT, a, b, t, rfl, rfl, h1, rfl, L, La, ha, hb⟩ ih
  unfold L_X6_goes_89 L_X8_learns_51
  by_cases ho : (N : Int) ≤ (t : Int)
  · have := last_run GC GT hx hn1 L La ha hb
    simp (disch := omega) only [i_lit, i_neg, i_add, i_sub, i_mul, i_ofNat, i_div, i_le, i_lt, i_eq, i_ix, i_inb, i_max, i_min, e_rem, j_lit, j_i, Int.reduceToNat, Int.reduceAdd, Int.reduceSub, Int.reduceMul, Int.reduceNeg, Int.reduceLT, Int.reduceLE, Int.reduceEq, gd_t, gd_T, ↓bd_m, ↓on_m, ↓ec_m, ↓reduceIte, if_true, if_false, true_and, and_true, false_and, and_false, true_or, or_true, false_or, or_false, Bool.false_eq_true, b2i_0, b2i_1, bl_0, bl_1, bl_b2, not_true_eq_false, not_false_eq_true, B_X6_goes_89, B_X6_goes_285, B_X8_learns_51, B_X8_learns_155, ho]
    exact this
  · have dv : 0 ≤ 50 * (t : Int) / (N : Int) ∧ 50 * (t : Int) / (N : Int) ≤ 50 := by
      refine ⟨Int.ediv_nonneg (by omega) (by omega), ?_⟩
      have : 50 * (t : Int) / (N : Int) < 51 := Int.ediv_lt_of_lt_mul (by omega) (by omega)
      omega
    have c := GC.frL hx L.1
    have cs := c.1
    have t0 := GT.frL L.2.1
    have ts := t0.1.s
    have La0 := La
    obtain ⟨l1, l2, l3, l4⟩ := La
    have nz : ((N : Int) = 0) = False := eq_false (by omega)
    generalize hp : 50 - 50 * (t : Int) / (N : Int) = p
    obtain ⟨a1, g1, gT1, a1n, x1, y1, L1, La1⟩ := takes_run GC GT hx hn1 L La0 (w := 0) (i := b) (by omega) (by omega) (p := p) (by omega)
    have x1 : F_X6_takes g (z + 420) (z + 422 + b) (iI p) = some (iI a1, g1) := x1
    have y1 : F_X8_takes gT m (iI 0) (iI b) (iI p) = some (iI a1, gT1) := y1
    have cs1 := (GC.frL hx L1.1).1
    have ts1 := (GT.frL L1.2.1).1.s
    have La1' := La1
    obtain ⟨l11, l12, l13, l14⟩ := La1
    obtain ⟨b1, g2, gT2, b1n, x2, y2, L2, La2⟩ := takes_run GC GT hx hn1 L1 La1' (w := 1) (i := a) (by omega) (by omega) (p := p) (by omega)
    have x2 : F_X6_takes g1 (z + 420) (z + 431 + a) (iI p) = some (iI b1, g2) := x2
    have y2 : F_X8_takes gT1 m (iI 1) (iI a) (iI p) = some (iI b1, gT2) := y2
    have c2 := GC.frL hx L2.1
    have t2 := GT.frL L2.2.1
    have cs2 := c2.1
    have ts2 := t2.1.s
    obtain ⟨l21, l22, l23, l24⟩ := La2
    have v1 := (c2.2.2.2.2.2 a1 b1 a1n b1n).1
    have gA := gain0 t2 a1n b1n
    -- teaching a
    obtain ⟨m1, m1n, m2, m3⟩ := grt_at GC GT hx hn1 L2 (w := 0) (i := b1) (by omega) (by omega)
    have m2 : F_X6_greatest g2 (z + 420) (z + 422 + b1) = some (iI m1) := m2
    obtain ⟨gT3, e1, T3, u3, d3, j3⟩ := teachT GT L2.2.1 (w := 0) (row := b) (own := a1) (nr := b1) (best := m1) (by omega) (by omega) (by omega) (by omega) (by omega) (iI (A a1 b1)) m3
    have e1 : F_X8_teaches gT2 m (iI 0) (iI b) (iI a1) (iI (A a1 b1)) (iI b1) = some gT3 := e1
    rw [show 64 * 0 + 8 * b + a1 = 8 * b + a1 by omega, show 64 * 0 + 8 * b1 + m1 = 8 * b1 + m1 by omega] at u3
    rw [show 64 * 0 + 8 * b + a1 = 8 * b + a1 by omega] at d3
    have ts3 := (GT.frL T3).1.s
    have g1B := gain1 (GT.frL T3) a1n b1n (v := iI 1) (by decide)
    have r35 : hI gT3 m 35 = iI b := by rw [d3 _ _ (by omega)]; exact l24
    have r34 : hI gT3 m 34 = iI a := by rw [d3 _ _ (by omega)]; exact l22
    -- teaching b
    have ra := rw_at cs2 (w := 1) (i := a1) (by omega)
    obtain ⟨n1, n1n, n2, n3⟩ := grt_run c2 (GT.frL T3) hn1 (row := rwC z 1 a1) (w := 1) (i := a1) (V := hI g2 (rwC z 1 a1)) ra.1 ra.2 (by omega) (by omega) (fun _ _ => rfl) (fun l hl => by rw [d3 _ _ (by omega)]; exact L2.row (by omega) (by omega) l hl)
    have n2 : F_X6_greatest g2 (z + 420) (z + 431 + a1) = some (iI n1) := n2
    obtain ⟨gT4, e4, T4, u4, d4, j4⟩ := teachT GT T3 (w := 1) (row := a) (own := b1) (nr := a1) (best := n1) (by omega) (by omega) (by omega) (by omega) (by omega) (iI (B a1 b1)) n3
    have e4 : F_X8_teaches gT3 m (iI 1) (iI a) (iI b1) (iI (B a1 b1)) (iI a1) = some gT4 := e4
    rw [show 64 * 1 + 8 * a + b1 = 64 + 8 * a + b1 by omega, show 64 * 1 + 8 * a1 + n1 = 64 + 8 * a1 + n1 by omega] at u4
    rw [show 64 * 1 + 8 * a + b1 = 64 + 8 * a + b1 by omega] at d4
    have ts4 := (GT.frL T4).1.s
    have wb := cs.w421 b (by omega)
    have wa1 := cs1.w430 a (by omega)
    have w2b := cs2.w421 b (by omega)
    have w2b1 := cs2.w421 b1 (by omega)
    have w2a1 := cs2.w430 a1 (by omega)
    have wg := cs2.w276 a1 (by omega)
    simp (disch := omega) only [i_lit, i_neg, i_add, i_sub, i_mul, i_ofNat, i_div, i_le, i_lt, i_eq, i_ix, i_inb, i_max, i_min, e_rem, j_lit, j_i, Int.reduceToNat, Int.reduceAdd, Int.reduceSub, Int.reduceMul, Int.reduceNeg, Int.reduceLT, Int.reduceLE, Int.reduceEq, gd_t, gd_T, ↓bd_m, ↓on_m, ↓ec_m, ↓reduceIte, if_true, if_false, true_and, and_true, false_and, and_false, true_or, or_true, false_or, or_false, Bool.false_eq_true, b2i_0, b2i_1, bl_0, bl_1, bl_b2, not_true_eq_false, not_false_eq_true, B_X6_goes_89, B_X8_learns_51, learntC, hp, nz, ho, cs.k420, cs.ra, cs.k421, cs.l421, wb.1, l3, x1, cs1.k420, cs1.rb, cs1.k430, cs1.l430, wa1.1, l11, x2, cs2.k420, cs2.ra, cs2.k421, cs2.l421, cs2.rb, cs2.k430, cs2.l430, cs2.rt, cs2.k, cs2.r276, cs2.k276, cs2.l276, w2b.1, w2b.2.1, w2b.2.2, w2b1.1, w2b1.2.1, w2b1.2.2, w2a1.1, w2a1.2.1, w2a1.2.2, wg.1, wg.2.1, wg.2.2, m2, n2, l23, v1, ts.k, l4, y1, ts1.k, l12, y2, ts2.k, l24, gA, e1, ts3.k, r34, r35, g1B, e4, ts4.k, Int.toNat_natCast]
    have PLA : LrP z (z + 422 + b) := by unfold LrP; omega
    have PLB : LrP z (z + 431 + a) := by unfold LrP; omega
    have PL : LrP z (z + 420) := by unfold LrP; omega
    have PM : MP m m := Or.inl rfl
    refine fwL L2.1 PLA (fun g3 U3 w3 q3 _ => ?_)
    have L3 := L2.tA (i := b) (j := a1) (by omega) (by omega) (v := lrn (hI g2 (z + 422 + b) a1) (iI (A a1 b1)) (hI g2 (z + 422 + b1) m1)) U3 w3 q3 T3 (by rw [u3, (L2.2.2.2.2.1 b a1 (by omega) (by omega)).1, (L2.2.2.2.2.1 b1 m1 (by omega) (by omega)).1]) d3 j3
    have c3 := GC.frL hx L3.1
    have cs3 := c3.1
    have l33 : hI g3 (z + 420) 3 = iI a := by rw [q3 _ _ (by omega)]; exact l21
    have w3a := cs3.w430 a (by omega)
    have wg3 := cs3.w285 a1 (by omega)
    have v3 := (c3.2.2.2.2.2 a1 b1 a1n b1n).2
    simp (disch := omega) only [i_lit, i_neg, i_add, i_sub, i_mul, i_ofNat, i_div, i_le, i_lt, i_eq, i_ix, i_inb, i_max, i_min, e_rem, j_lit, j_i, Int.reduceToNat, Int.reduceAdd, Int.reduceSub, Int.reduceMul, Int.reduceNeg, Int.reduceLT, Int.reduceLE, Int.reduceEq, gd_t, gd_T, ↓bd_m, ↓on_m, ↓ec_m, ↓reduceIte, if_true, if_false, true_and, and_true, false_and, and_false, true_or, or_true, false_or, or_false, Bool.false_eq_true, b2i_0, b2i_1, bl_0, bl_1, bl_b2, not_true_eq_false, not_false_eq_true, B_X6_goes_224, learntC, cs3.k420, cs3.rb, cs3.k430, cs3.l430, l33, w3a.1, w3a.2.1, w3a.2.2, cs3.rt, cs3.k, cs3.r285, cs3.k285, cs3.l285, wg3.1, wg3.2.1, wg3.2.2, v3, Int.toNat_natCast]
    refine fwL U3 PLB (fun g4 U4 w4 q4 _ => ?_)
    have L4 := L3.tB (i := a) (j := b1) (by omega) (by omega) (v := lrn (hI g3 (z + 431 + a) b1) (iI (B a1 b1)) (hI g2 (z + 431 + a1) n1)) U4 w4 q4 T4 (by rw [u4, (L3.2.2.2.2.1 a b1 (by omega) (by omega)).2, d3 _ (64 + 8 * a1 + n1) (by omega), (L2.2.2.2.2.1 a1 n1 (by omega) (by omega)).2]) d4 j4
    have k4 : hK g4 (z + 420) = 6 := (GC.frL hx U4).1.k420
    simp (disch := omega) only [i_lit, i_neg, i_add, i_sub, i_mul, i_ofNat, i_div, i_le, i_lt, i_eq, i_ix, i_inb, i_max, i_min, e_rem, j_lit, j_i, Int.reduceToNat, Int.reduceAdd, Int.reduceSub, Int.reduceMul, Int.reduceNeg, Int.reduceLT, Int.reduceLE, Int.reduceEq, gd_t, gd_T, ↓bd_m, ↓on_m, ↓ec_m, ↓reduceIte, if_true, if_false, true_and, and_true, false_and, and_false, true_or, or_true, false_or, or_false, Bool.false_eq_true, b2i_0, b2i_1, bl_0, bl_1, bl_b2, not_true_eq_false, not_false_eq_true, B_X6_goes_267, k4]
    refine fwL U4 PL (fun g5 U5 w5 q5 _ => ?_)
    refine fwR T4 PM (fun gT5 V5 v5 r5 j5 => ?_)
    have k5 : hK g5 (z + 420) = 6 := (GC.frL hx U5).1.k420
    have ts5 := (GT.frL V5).1.s
    simp (disch := omega) only [i_lit, i_neg, i_add, i_sub, i_mul, i_ofNat, i_div, i_le, i_lt, i_eq, i_ix, i_inb, i_max, i_min, e_rem, j_lit, j_i, Int.reduceToNat, Int.reduceAdd, Int.reduceSub, Int.reduceMul, Int.reduceNeg, Int.reduceLT, Int.reduceLE, Int.reduceEq, gd_t, gd_T, ↓bd_m, ↓on_m, ↓ec_m, ↓reduceIte, if_true, if_false, true_and, and_true, false_and, and_false, true_or, or_true, false_or, or_false, Bool.false_eq_true, b2i_0, b2i_1, bl_0, bl_1, bl_b2, not_true_eq_false, not_false_eq_true, B_X6_goes_273, B_X8_learns_143, k5, ts5.k]
    refine fwL U5 PL (fun g6 U6 w6 q6 _ => ?_)
    refine fwR V5 PM (fun gT6 V6 v6 r6 j6 => ?_)
    obtain ⟨L6, La6⟩ := L4.st U6 w5 q5 w6 q6 V6 v5 r5 j5 v6 r6 j6
    have nx := ih (g6, z + 420, iI N, iI ((t + 1 : Nat) : Int)) (gT6, m, iI N, iI ((t + 1 : Nat) : Int)) (N - (t + 1)) (by omega) ⟨g6, gT6, a1, b1, t + 1, rfl, rfl, by omega, rfl, L6, La6, a1n, b1n⟩
    rw [show (((t + 1 : Nat)) : Int) = (t : Int) + 1 by omega] at nx
    simp (disch := omega) only [i_lit, i_neg, i_add, i_sub, i_mul, i_ofNat, i_div, i_le, i_lt, i_eq, i_ix, i_inb, i_max, i_min, e_rem, j_lit, j_i, Int.reduceToNat, Int.reduceAdd, Int.reduceSub, Int.reduceMul, Int.reduceNeg, Int.reduceLT, Int.reduceLE, Int.reduceEq, gd_t, gd_T, ↓bd_m, ↓on_m, ↓ec_m, ↓reduceIte, if_true, if_false, true_and, and_true, false_and, and_false, true_or, or_true, false_or, or_false, Bool.false_eq_true, b2i_0, b2i_1, bl_0, bl_1, bl_b2, not_true_eq_false, not_false_eq_true, B_X6_goes_279, B_X8_learns_149]
    exact nx
