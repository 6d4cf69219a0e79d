/-! PURE J: what the component sees -/
set_option maxRecDepth 100000
theorem many_eq {o : Nat → Nat} {t : Nat} {h : AH} {x : Nat} {τ : Nat → Int} {υ : Nat → Int64} {e : Nat → Nat} {el : Nat → Nat → Nat} {lw : Nat} (c : CrP o t h x τ υ e el lw) : F_X2_many h x = some (iI (τ 0)) := by
  unfold F_X2_many
  simp (disch := omega) only [i_lit, i_neg, i_add, i_sub, i_mul, i_ofNat, i_div, i_le, i_lt, i_eq, i_ix, i_inb, i_max, i_min, e_rem, j_lit, j_i, Int.reduceToNat, Int.reduceAdd, Int.reduceSub, Int.reduceMul, Int.reduceNeg, Int.reduceLT, Int.reduceLE, Int.reduceEq, gd_t, gd_T, bd_t, lh_t, on_s, on_n, ec_l, ec_r, if_true, if_false, true_and, and_true, false_and, and_false, true_or, or_true, false_or, or_false, Bool.false_eq_true, b2i_0, b2i_1, bl_0, bl_1, bl_b2, not_true_eq_false, not_false_eq_true, c.k, c.r0, c.a0.k, size_eq c.a0]
theorem at_eq {o : Nat → Nat} {t : Nat} {h : AH} {x : Nat} {τ : Nat → Int} {υ : Nat → Int64} {e : Nat → Nat} {el : Nat → Nat → Nat} {lw : Nat} (c : CrP o t h x τ υ e el lw) {s y : Int} (hs : 0 ≤ s ∧ s < 4) (hy : 0 ≤ y ∧ y ≤ 3000) : F_X2_at h x (iI s) (iI y) = some (iI (τ (1885 + 4 * (y % 256) + s).toNat)) := by
  obtain ⟨k1, k2, k3, k4⟩ := c.b (y % 256).toNat (by omega)
  have k5 := k4 s.toNat (by omega)
  unfold F_X2_at
  simp (disch := omega) only [i_lit, i_neg, i_add, i_sub, i_mul, i_ofNat, i_div, i_le, i_lt, i_eq, i_ix, i_inb, i_max, i_min, e_rem, j_lit, j_i, Int.reduceToNat, Int.reduceAdd, Int.reduceSub, Int.reduceMul, Int.reduceNeg, Int.reduceLT, Int.reduceLE, Int.reduceEq, gd_t, gd_T, bd_t, lh_t, on_s, on_n, ec_l, ec_r, if_true, if_false, true_and, and_true, false_and, and_false, true_or, or_true, false_or, or_false, Bool.false_eq_true, b2i_0, b2i_1, bl_0, bl_1, bl_b2, not_true_eq_false, not_false_eq_true, c.k, c.r6, c.kb, c.lb, k1, k2, k3, k5]
  rw [show 1885 + 4 * (y % 256).toNat + s.toNat = (1885 + 4 * (y % 256) + s).toNat by omega]
theorem stat_at {o : Nat → Nat} {t : Nat} {h : AH} {x : Nat} {τ : Nat → Int} {υ : Nat → Int64} {e : Nat → Nat} {el : Nat → Nat → Nat} {lw : Nat} (c : CrP o t h x τ υ e el lw) {s : Int} (hs : 0 ≤ s ∧ s < τ 0) : F_J2_get h (x + 1) (iI s) = some (el 0 s.toNat) ∧ StP o h (el 0 s.toNat) τ υ s.toNat := by
  obtain ⟨k1, k2⟩ := c.st s.toNat (by omega)
  exact ⟨get_eq c.a0 hs k1, k2⟩
theorem run_at {o : Nat → Nat} {t : Nat} {h : AH} {x : Nat} {τ : Nat → Int} {υ : Nat → Int64} {e : Nat → Nat} {el : Nat → Nat → Nat} {lw : Nat} (c : CrP o t h x τ υ e el lw) {z : Nat} (cs : CS h z) (hz : hR h z 0 = some x) {s y : Int} (hs : 0 ≤ s ∧ s < τ 0) (hy : -10 ≤ y ∧ y ≤ 3000) : F_X4_at h (z + 271) (iI s) (iI y) = some (iI (seenS τ false s y)) := by
  have hn := c.rg.n
  obtain ⟨k1, k2⟩ := stat_at c hs
  unfold F_X4_at B_X4_at_39 seenS
  by_cases h0 : 0 ≤ y
  · simp (disch := omega) only [i_lit, i_neg, i_add, i_sub, i_mul, i_ofNat, i_div, i_le, i_lt, i_eq, i_ix, i_inb, i_max, i_min, e_rem, j_lit, j_i, Int.reduceToNat, Int.reduceAdd, Int.reduceSub, Int.reduceMul, Int.reduceNeg, Int.reduceLT, Int.reduceLE, Int.reduceEq, gd_t, gd_T, bd_t, lh_t, on_s, on_n, ec_l, ec_r, if_true, if_false, true_and, and_true, false_and, and_false, true_or, or_true, false_or, or_false, Bool.false_eq_true, b2i_0, b2i_1, bl_0, bl_1, bl_b2, not_true_eq_false, not_false_eq_true, cs.k271, cs.r4, cs.k, hz, c.k, at_eq c (s := s) (y := y) (by omega) (by omega), h0]
  · simp (disch := omega) only [i_lit, i_neg, i_add, i_sub, i_mul, i_ofNat, i_div, i_le, i_lt, i_eq, i_ix, i_inb, i_max, i_min, e_rem, j_lit, j_i, Int.reduceToNat, Int.reduceAdd, Int.reduceSub, Int.reduceMul, Int.reduceNeg, Int.reduceLT, Int.reduceLE, Int.reduceEq, gd_t, gd_T, bd_t, lh_t, on_s, on_n, ec_l, ec_r, if_true, if_false, true_and, and_true, false_and, and_false, true_or, or_true, false_or, or_false, Bool.false_eq_true, b2i_0, b2i_1, bl_0, bl_1, bl_b2, not_true_eq_false, not_false_eq_true, cs.k271, cs.r4, cs.k, hz, c.k, c.r0, c.a0.k, k1, k2.k, k2.i4, h0]
    rw [show 20 + s.toNat = (20 + s).toNat by omega]
theorem told_at {o : Nat → Nat} {t : Nat} {h : AH} {x : Nat} {τ : Nat → Int} {υ : Nat → Int64} {e : Nat → Nat} {el : Nat → Nat → Nat} {lw : Nat} (c : CrP o t h x τ υ e el lw) {z : Nat} (cs : CS h z) (hz : hR h z 0 = some x) {s y : Int} (hs : 0 ≤ s ∧ s < τ 0) (hy : -10 ≤ y ∧ max 0 y < τ 5) : F_X5_at h (z + 272) (iI s) (iI y) = some (iI (seenS τ true s y)) := by
  have hn := c.rg.n
  have ht := c.rg.t
  obtain ⟨k1, k2, k3, k4, k5⟩ := c.to (max 0 y).toNat (by omega)
  have k6 := get_eq c.a4 (i := max 0 y) (by omega) k1
  have k7 := k5 s.toNat (by omega)
  unfold F_X5_at seenS
  simp (disch := omega) only [i_lit, i_neg, i_add, i_sub, i_mul, i_ofNat, i_div, i_le, i_lt, i_eq, i_ix, i_inb, i_max, i_min, e_rem, j_lit, j_i, Int.reduceToNat, Int.reduceAdd, Int.reduceSub, Int.reduceMul, Int.reduceNeg, Int.reduceLT, Int.reduceLE, Int.reduceEq, gd_t, gd_T, bd_t, lh_t, on_s, on_n, ec_l, ec_r, if_true, if_false, true_and, and_true, false_and, and_false, true_or, or_true, false_or, or_false, Bool.false_eq_true, b2i_0, b2i_1, bl_0, bl_1, bl_b2, not_true_eq_false, not_false_eq_true, cs.k272, cs.r5, cs.k, hz, c.k, c.r4, c.a4.k, k6, k2, k4, k7]
  rw [show 2909 + 4 * (max 0 y).toNat + s.toNat = (2909 + 4 * max 0 y + s).toNat by omega]
theorem run_since {o : Nat → Nat} {t : Nat} {h : AH} {x : Nat} {τ : Nat → Int} {υ : Nat → Int64} {e : Nat → Nat} {el : Nat → Nat → Nat} {lw : Nat} (c : CrP o t h x τ υ e el lw) {z : Nat} (cs : CS h z) (hz : hR h z 0 = some x) {s y : Int} (hs : 0 ≤ s ∧ s < τ 0) (hy : 0 ≤ y ∧ y ≤ 3000) : F_X4_since h (z + 271) (iI s) (iI y) = some (iI (sinceS τ false s y)) := by
  have hn := c.rg.n
  obtain ⟨k1, k2⟩ := stat_at c hs
  have k3 := c.rg.chg s.toNat (by omega)
  have e1 : (24 + s.toNat) = (24 + s).toNat := by omega
  rw [e1] at k3
  have k4 := k2.i3
  rw [e1] at k4
  unfold F_X4_since B_X4_since_37 sinceS
  by_cases q : τ (24 + s).toNat = -1
  · simp (disch := omega) only [i_lit, i_neg, i_add, i_sub, i_mul, i_ofNat, i_div, i_le, i_lt, i_eq, i_ix, i_inb, i_max, i_min, e_rem, j_lit, j_i, Int.reduceToNat, Int.reduceAdd, Int.reduceSub, Int.reduceMul, Int.reduceNeg, Int.reduceLT, Int.reduceLE, Int.reduceEq, gd_t, gd_T, bd_t, lh_t, on_s, on_n, ec_l, ec_r, if_true, if_false, true_and, and_true, false_and, and_false, true_or, or_true, false_or, or_false, Bool.false_eq_true, b2i_0, b2i_1, bl_0, bl_1, bl_b2, not_true_eq_false, not_false_eq_true, cs.k271, cs.r4, cs.k, hz, c.k, c.r0, c.a0.k, k1, k2.k, k4, q]
  · simp (disch := omega) only [i_lit, i_neg, i_add, i_sub, i_mul, i_ofNat, i_div, i_le, i_lt, i_eq, i_ix, i_inb, i_max, i_min, e_rem, j_lit, j_i, Int.reduceToNat, Int.reduceAdd, Int.reduceSub, Int.reduceMul, Int.reduceNeg, Int.reduceLT, Int.reduceLE, Int.reduceEq, gd_t, gd_T, bd_t, lh_t, on_s, on_n, ec_l, ec_r, if_true, if_false, true_and, and_true, false_and, and_false, true_or, or_true, false_or, or_false, Bool.false_eq_true, b2i_0, b2i_1, bl_0, bl_1, bl_b2, not_true_eq_false, not_false_eq_true, cs.k271, cs.r4, cs.k, hz, c.k, c.r0, c.a0.k, k1, k2.k, k4, q]
theorem itr_succ {β : Type} (f : Nat → β → β) : ∀ (n i : Nat) (b : β), itr f (n + 1) i b = f (i + n) (itr f n i b) := by
  intro n
  induction n with
  | zero => intro i b; rfl
  | succ n ih =>
    intro i b
    rw [itr, ih, itr, show i + 1 + n = i + (n + 1) by omega]
theorem told_since {o : Nat → Nat} {t : Nat} {h : AH} {x : Nat} {τ : Nat → Int} {υ : Nat → Int64} {e : Nat → Nat} {el : Nat → Nat → Nat} {lw : Nat} (c : CrP o t h x τ υ e el lw) {z : Nat} (cs : CS h z) (hz : hR h z 0 = some x) {s y : Int} (hs : 0 ≤ s ∧ s < τ 0) (hy : 1 ≤ y ∧ y < τ 5) : F_X5_since h (z + 272) (iI s) (iI y) = some (iI (sinceS τ true s y)) := by
  have hn := c.rg.n
  have ht := c.rg.t
  have key : Ok1 (F_X5_since h (z + 272) (iI s) (iI y)) (fun r => r = iI (sinceS τ true s y)) := by
    unfold F_X5_since G_X5_since_4
    simp (disch := omega) only [i_lit, i_neg, i_add, i_sub, i_mul, i_ofNat, i_div, i_le, i_lt, i_eq, i_ix, i_inb, i_max, i_min, e_rem, j_lit, j_i, Int.reduceToNat, Int.reduceAdd, Int.reduceSub, Int.reduceMul, Int.reduceNeg, Int.reduceLT, Int.reduceLE, Int.reduceEq, gd_t, gd_T, bd_t, lh_t, on_s, on_n, ec_l, ec_r, if_true, if_false, true_and, and_true, false_and, and_false, true_or, or_true, false_or, or_false, Bool.false_eq_true, b2i_0, b2i_1, bl_0, bl_1, bl_b2, not_true_eq_false, not_false_eq_true]
    refine lp_ok (fun st k => ∃ o : Int, st = (z + 272, iI s, iI y, iI o) ∧ 0 ≤ o ∧ o ≤ y - 1 ∧ k = o.toNat ∧ itr (lastF τ s) o.toNat 1 (-1) = itr (lastF τ s) (y - 1).toNat 1 (-1)) ?_ fuel (y - 1).toNat _ ⟨y - 1, rfl, by omega, by omega, rfl, rfl⟩ (lt_fuel (by omega))
    rintro self st k ⟨o, rfl, h1, h2, rfl, h5⟩ ih
    unfold L_X5_since_4 B_X5_since_4 B_X5_since_31 B_X5_since_46
    by_cases ho : o ≤ 0
    · have e0 : o = 0 := by omega
      subst e0
      have e2 : itr (lastF τ s) (y - 1).toNat 1 (-1) = -1 := h5.symm
      unfold sinceS
      simp only [if_true, e2]
      simp (disch := omega) only [i_lit, i_neg, i_add, i_sub, i_mul, i_ofNat, i_div, i_le, i_lt, i_eq, i_ix, i_inb, i_max, i_min, e_rem, j_lit, j_i, Int.reduceToNat, Int.reduceAdd, Int.reduceSub, Int.reduceMul, Int.reduceNeg, Int.reduceLT, Int.reduceLE, Int.reduceEq, gd_t, gd_T, bd_t, lh_t, on_s, on_n, ec_l, ec_r, if_true, if_false, true_and, and_true, false_and, and_false, true_or, or_true, false_or, or_false, Bool.false_eq_true, b2i_0, b2i_1, bl_0, bl_1, bl_b2, not_true_eq_false, not_false_eq_true]
      exact Ok1.some rfl
    · have e1 := told_at c cs hz (s := s) (y := o) hs (by omega)
      have e2 := told_at c cs hz (s := s) (y := o - 1) hs (by omega)
      have r1 := i31_seen c.rg.i true s o
      have r2 := i31_seen c.rg.i true s (o - 1)
      have e3 := itr_succ (lastF τ s) (o.toNat - 1) 1 (-1)
      rw [show o.toNat - 1 + 1 = o.toNat by omega, show 1 + (o.toNat - 1) = o.toNat by omega] at e3
      have e4 : lastF τ s o.toNat (itr (lastF τ s) (o.toNat - 1) 1 (-1)) = (if seenS τ true s o = seenS τ true s (o - 1) then itr (lastF τ s) (o.toNat - 1) 1 (-1) else o) := by
        show (if seenS τ true s ((o.toNat : Nat) : Int) = seenS τ true s (((o.toNat : Nat) : Int) - 1) then _ else ((o.toNat : Nat) : Int)) = _
        rw [show ((o.toNat : Nat) : Int) = o by omega]
      rw [e3, e4] at h5
      by_cases q3 : seenS τ true s o = seenS τ true s (o - 1)
      · rw [if_pos q3] at h5
        simp (disch := omega) only [i_lit, i_neg, i_add, i_sub, i_mul, i_ofNat, i_div, i_le, i_lt, i_eq, i_ix, i_inb, i_max, i_min, e_rem, j_lit, j_i, Int.reduceToNat, Int.reduceAdd, Int.reduceSub, Int.reduceMul, Int.reduceNeg, Int.reduceLT, Int.reduceLE, Int.reduceEq, gd_t, gd_T, bd_t, lh_t, on_s, on_n, ec_l, ec_r, if_true, if_false, true_and, and_true, false_and, and_false, true_or, or_true, false_or, or_false, Bool.false_eq_true, b2i_0, b2i_1, bl_0, bl_1, bl_b2, not_true_eq_false, not_false_eq_true, cs.k272, ho, e1, e2, q3]
        refine ih _ (o - 1).toNat (by omega) ⟨o - 1, by rw [show o + -1 = o - 1 by omega], by omega, by omega, rfl, ?_⟩
        rw [show (o - 1).toNat = o.toNat - 1 by omega]
        exact h5
      · rw [if_neg q3] at h5
        simp (disch := omega) only [i_lit, i_neg, i_add, i_sub, i_mul, i_ofNat, i_div, i_le, i_lt, i_eq, i_ix, i_inb, i_max, i_min, e_rem, j_lit, j_i, Int.reduceToNat, Int.reduceAdd, Int.reduceSub, Int.reduceMul, Int.reduceNeg, Int.reduceLT, Int.reduceLE, Int.reduceEq, gd_t, gd_T, bd_t, lh_t, on_s, on_n, ec_l, ec_r, if_true, if_false, true_and, and_true, false_and, and_false, true_or, or_true, false_or, or_false, Bool.false_eq_true, b2i_0, b2i_1, bl_0, bl_1, bl_b2, not_true_eq_false, not_false_eq_true, cs.k272, ho, e1, e2, q3]
        rw [if_pos (by omega)]
        unfold sinceS
        simp only [if_true, ← h5]
        rw [if_neg (by omega)]
        exact Ok1.some rfl
  obtain ⟨r, h1, h2⟩ := key
  rw [h1, h2]
theorem tf_w {P : Nat → Prop} {h g : AH} {a k : Nat} {x : Int32} (T : tf P h g) (ha : P a) : tf P h (wI g a k x) := T.trans (tf_wI ha)
theorem tf_wj {P : Nat → Prop} {h g : AH} {a k : Nat} {x : Int64} (T : tf P h g) (ha : P a) : tf P h (wJ g a k x) := T.trans (tf_wJ ha)
/-- the fixed cells' mark -/
def OW (o : Nat → Nat) (z : Nat) : Prop := ∀ a, (a = z ∨ (z + 269 ≤ a ∧ a ≤ z + 495)) → o a = 1
theorem CrP.tf {P : Nat → Prop} {h' : AH} {o : Nat → Nat} {t : Nat} {h : AH} {x : Nat} {τ : Nat → Int} {υ : Nat → Int64} {e : Nat → Nat} {el : Nat → Nat → Nat} {lw : Nat} (c : CrP o t h x τ υ e el lw) (T : tf P h h') (hP : ∀ a, P a → o a = 1 ∧ ¬ imK (hK h a) ∧ hK h a ≠ 120) (ht : t ≠ 1) : CrP o t h' x τ υ e el lw := by
  have s : ∀ a, ¬ P a → sm h h' a := fun a q => ⟨by rw [T.K], by rw [T.L], T.I q, T.J q, by rw [T.R]⟩
  exact c.fr (fun a q => s a (fun p => (hP a p).2.1 q)) (fun a q => ⟨s a (fun p => by have := (hP a p).1; omega), q⟩) (fun a q => ⟨s a (fun p => (hP a p).2.2 q), fun w => w⟩) (by rw [T.R]) (fun a q => ⟨s a (fun p => by have := (hP a p).1; omega), q⟩)
theorem CS.tf {P : Nat → Prop} {h h' : AH} {z : Nat} (s : CS h z) (t : tf P h h') : CS h' z := by
  unfold CS at s ⊢
  rw [t.K, t.L, t.R]
  exact s
theorem seen_rng {τ : Nat → Int} (r : RG τ) {bt : Bool} {s y : Int} (hs : 0 ≤ s ∧ s < 4) (hy : y ≤ 3000) (h2 : bt = true → y < 60) : 0 ≤ seenS τ bt s y ∧ seenS τ bt s y ≤ 99 := by
  unfold seenS
  cases bt with
  | true =>
    have := r.row (4 * max 0 y + s).toNat (by have := h2 rfl; omega)
    rw [show 2909 + (4 * max 0 y + s).toNat = (2909 + 4 * max 0 y + s).toNat by omega] at this
    simpa using this
  | false =>
    by_cases h0 : 0 ≤ y
    · have := r.brd (4 * (y % 256) + s).toNat (by omega)
      rw [show 1885 + (4 * (y % 256) + s).toNat = (1885 + 4 * (y % 256) + s).toNat by omega] at this
      simpa [h0] using this
    · have := r.first s.toNat (by omega)
      rw [show 20 + s.toNat = (20 + s).toNat by omega] at this
      simpa [h0] using this
/-- a write into a fixed row, the heap behind it by what is known of it alone -/
theorem fw_ {α : Type} {P : Nat → Prop} {h g : AH} {a k : Nat} {v : Int32} {K : AH → Option α} {Q : α → Prop} (T : tf P h g) (ha : P a) (H : ∀ g', tf P h g' → hI g' a k = v → (∀ j, j ≠ k → hI g' a j = hI g a j) → Ok1 (K g') Q) : Ok1 (lh (wI g a k v) K) Q :=
  H _ (T.trans (tf_wI ha)) (by rw [hI_wI, if_pos ⟨rfl, rfl⟩]) (fun j hj => by rw [hI_wI, if_neg (fun q => hj q.2)])
