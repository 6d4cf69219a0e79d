/-! PURE I: lists, and frames of pictures -/
set_option maxRecDepth 100000
theorem size_eq {h : AH} {l e : Nat} {n : Int} (a : AL h l e n) : F_J2_size h l = some (iI n) := by
  unfold F_J2_size
  simp (disch := omega) only [i_lit, i_neg, i_add, i_sub, i_mul, i_ofNat, i_div, i_le, i_lt, i_eq, i_ix, i_inb, i_max, i_min, e_rem, j_lit, j_i, Int.reduceToNat, Int.reduceAdd, Int.reduceSub, Int.reduceMul, Int.reduceNeg, Int.reduceLT, Int.reduceLE, Int.reduceEq, gd_t, gd_T, bd_t, lh_t, on_s, on_n, ec_l, ec_r, if_true, if_false, true_and, and_true, false_and, and_false, true_or, or_true, false_or, or_false, Bool.false_eq_true, b2i_0, b2i_1, bl_0, bl_1, bl_b2, not_true_eq_false, not_false_eq_true, a.k, a.n]
theorem isEmpty_eq {h : AH} {l e : Nat} {n : Int} (a : AL h l e n) : F_J2_isEmpty h l = some (b2 (n = 0)) := by
  have hp := a.p
  unfold F_J2_isEmpty B_J2_isEmpty_12
  simp (disch := omega) only [i_lit, i_neg, i_add, i_sub, i_mul, i_ofNat, i_div, i_le, i_lt, i_eq, i_ix, i_inb, i_max, i_min, e_rem, j_lit, j_i, Int.reduceToNat, Int.reduceAdd, Int.reduceSub, Int.reduceMul, Int.reduceNeg, Int.reduceLT, Int.reduceLE, Int.reduceEq, gd_t, gd_T, bd_t, lh_t, on_s, on_n, ec_l, ec_r, if_true, if_false, true_and, and_true, false_and, and_false, true_or, or_true, false_or, or_false, Bool.false_eq_true, b2i_0, b2i_1, bl_0, bl_1, bl_b2, not_true_eq_false, not_false_eq_true, a.k, a.n]
  by_cases q : n = 0
  · rw [if_pos q, b2_t q]; rfl
  · rw [if_neg q, b2_f q]; rfl
theorem get_eq {h : AH} {l e : Nat} {n : Int} (a : AL h l e n) {i : Int} {b : Nat} (hi : 0 ≤ i ∧ i < n) (hb : hR h e i.toNat = some b) : F_J2_get h l (iI i) = some b := by
  have hp := a.p
  have hc : hK h e = 108 ∧ n ≤ hL h e := by
    rcases a.c with q | q
    · exact ⟨q.1, q.2.1⟩
    · omega
  unfold F_J2_get F_J12_checkIndex F_J13_checkIndex F_J2_elementData
  simp (disch := omega) only [i_lit, i_neg, i_add, i_sub, i_mul, i_ofNat, i_div, i_le, i_lt, i_eq, i_ix, i_inb, i_max, i_min, e_rem, j_lit, j_i, Int.reduceToNat, Int.reduceAdd, Int.reduceSub, Int.reduceMul, Int.reduceNeg, Int.reduceLT, Int.reduceLE, Int.reduceEq, gd_t, gd_T, bd_t, lh_t, on_s, on_n, ec_l, ec_r, if_true, if_false, true_and, and_true, false_and, and_false, true_or, or_true, false_or, or_false, Bool.false_eq_true, b2i_0, b2i_1, bl_0, bl_1, bl_b2, not_true_eq_false, not_false_eq_true, a.k, a.n, a.r, hc.1, hb]
  rw [if_neg (by omega), if_pos (by omega)]
  rfl
/-- kinds whose cells never change once they are made -/
def imK (κ : Nat) : Prop := κ = 3 ∨ κ = 10 ∨ κ = 11 ∨ (16 ≤ κ ∧ κ ≤ 25)
theorem AL.fr {h h' : AH} {l e : Nat} {n : Int} (a : AL h l e n) (h1 : sm h h' l) (h2 : sm h h' e) (h3 : hR h' 0 0 = hR h 0 0) : AL h' l e n := by
  refine ⟨by rw [h1.1]; exact a.k, by rw [h1.2.2.1]; exact a.n, by rw [h1.2.2.2.2]; exact a.r, a.p, ?_⟩
  rw [h2.1, h2.2.1, h3]
  exact a.c
theorem TermE.fr {σ : Nat → Int} {g g' : AH} (f : ∀ a, imK (hK g a) → sm g g' a) : ∀ (n : Nat) (b : Bool) (a p q : Nat), TermE σ g n b a p q → TermE σ g' n b a p q := by
  intro n
  induction n with
  | zero => intro b a p q h; exact h.elim
  | succ n ih =>
    intro b a p q h
    rcases h with ⟨e0, e1, e2, e3, e4, e5⟩ | ⟨e0, e1, e2, e3, e4, e5⟩ | ⟨e0, e1, c, r, e2, e3, e4, e5⟩ | ⟨e1, c, d, r, r2, e2, e3, e4, e5, e6⟩
    · have s := f a (by rw [e1]; unfold imK; omega)
      exact Or.inl ⟨e0, by rw [s.1]; exact e1, e2, e3, e4, by rw [s.2.2.1]; exact e5⟩
    · have s := f a (by rw [e1]; unfold imK; omega)
      exact Or.inr (Or.inl ⟨e0, by rw [s.1]; exact e1, e2, e3, e4, by rw [s.2.2.1]; exact e5⟩)
    · have s := f a (by rw [e1]; unfold imK; omega)
      exact Or.inr (Or.inr (Or.inl ⟨e0, by rw [s.1]; exact e1, c, r, by rw [s.2.2.2.2]; exact e2, e3, e4, ih _ _ _ _ e5⟩))
    · have s := f a (by rw [e1]; unfold imK; omega)
      refine Or.inr (Or.inr (Or.inr ⟨by rw [s.1]; exact e1, c, d, r, r2, by rw [s.2.2.2.2]; exact e2, by rw [s.2.2.2.2]; exact e3, e4, by rw [s.2.2.1]; exact e5, ?_⟩))
      rcases e6 with ⟨k1, k2, k3, k4⟩ | ⟨k1, k2, k3, k4⟩ | ⟨k1, k2, k3, k4⟩
      · exact Or.inl ⟨k1, k2, ih _ _ _ _ k3, ih _ _ _ _ k4⟩
      · exact Or.inr (Or.inl ⟨k1, k2, ih _ _ _ _ k3, ih _ _ _ _ k4⟩)
      · exact Or.inr (Or.inr ⟨k1, k2, ih _ _ _ _ k3, ih _ _ _ _ k4⟩)
theorem MoveE.fr {σ : Nat → Int} {g g' : AH} (f : ∀ a, imK (hK g a) → sm g g' a) {mv p : Nat} (h : MoveE σ g mv p) : MoveE σ g' mv p := by
  have s : sm g g' mv := by
    apply f
    unfold imK
    rcases h with h | h | h | h | h | h
    all_goals (have := h.2; omega)
  unfold MoveE
  rw [s.1, s.2.2.1]
  exact h
theorem RuleE.fr {σ : Nat → Int} {g g' : AH} (f : ∀ a, imK (hK g a) → sm g g' a) {a p q : Nat} (h : RuleE σ g a p q) : RuleE σ g' a p q := by
  obtain ⟨h1, ⟨mv, h2, h3⟩, h4, h5, h6⟩ := h
  have s : sm g g' a := f a (by rw [h1]; unfold imK; omega)
  refine ⟨by rw [s.1]; exact h1, ⟨mv, by rw [s.2.2.2.2]; exact h2, h3.fr f⟩, h4, h5, ?_⟩
  rw [s.2.2.2.2]
  rcases h6 with h6 | ⟨h6, c, h7, h8⟩
  · exact Or.inl h6
  · exact Or.inr ⟨h6, c, h7, TermE.fr f _ _ _ _ _ h8⟩
theorem RuP.fr {o o' : Nat → Nat} {σ : Nat → Int} {g g' : AH} (f : ∀ a, imK (hK g a) → sm g g' a) (f6 : ∀ a, o a = 6 → sm g g' a ∧ o' a = 6) (f7 : ∀ a, hK g a = 120 → sm g g' a) (h3 : hR g' 0 0 = hR g 0 0) {rl : Nat} (h : RuP o σ g rl) : RuP o' σ g' rl := by
  obtain ⟨e, el, pos, h1, h2, h4, h5, h6, h7, h8⟩ := h
  have se : sm g g' e := by
    rcases h1.c with q | q
    · exact (f6 e (h5 q.1)).1
    · exact f7 e q.2.1
  refine ⟨e, el, pos, h1.fr (f6 rl h4).1 se h3, h2, (f6 rl h4).2, ?_, h6, h7, fun r hr => ?_⟩
  · intro q
    rw [se.1] at q
    exact (f6 e (h5 q)).2
  · obtain ⟨k1, k2⟩ := h8 r hr
    exact ⟨by rw [se.2.2.2.2]; exact k1, k2.fr f⟩
theorem StP.fr {o o' : Nat → Nat} {h h' : AH} (f : ∀ a, imK (hK h a) → sm h h' a) (f6 : ∀ a, o a = 6 → sm h h' a ∧ o' a = 6) (f7 : ∀ a, hK h a = 120 → sm h h' a) (h3 : hR h' 0 0 = hR h 0 0) {a s : Nat} {τ : Nat → Int} {υ : Nat → Int64} (sa : sm h h' a) (p : StP o h a τ υ s) : StP o' h' a τ υ s := by
  obtain ⟨rl, r1, r2⟩ := p.r
  exact ⟨by rw [sa.1]; exact p.k, by rw [sa.2.2.1]; exact p.i0, by rw [sa.2.2.1]; exact p.i1, by rw [sa.2.2.1]; exact p.i2, by rw [sa.2.2.1]; exact p.i3, by rw [sa.2.2.1]; exact p.i4, by rw [sa.2.2.2.1]; exact p.j5, by rw [sa.2.2.2.1]; exact p.j6, rl, by rw [sa.2.2.2.2]; exact r1, r2.fr f f6 f7 h3⟩
/-- a crossing's picture is kept where its cells are -/
theorem CrP.fr {o o' : Nat → Nat} {t t' : Nat} {h h' : AH} {x : Nat} {τ : Nat → Int} {υ : Nat → Int64} {e : Nat → Nat} {el : Nat → Nat → Nat} {lw : Nat} (c : CrP o t h x τ υ e el lw) (f : ∀ a, imK (hK h a) → sm h h' a) (f6 : ∀ a, o a = 6 → sm h h' a ∧ o' a = 6) (f7 : ∀ a, hK h a = 120 → sm h h' a ∧ (o a = 7 → o' a = 7)) (h3 : hR h' 0 0 = hR h 0 0) (ft : ∀ a, o a = t → sm h h' a ∧ o' a = t') : CrP o' t' h' x τ υ e el lw := by
  have f7' : ∀ a, hK h a = 120 → sm h h' a := fun a q => (f7 a q).1
  have sx : ∀ i : Nat, i ≤ 267 → i ≠ 6 → sm h h' (x + i) := fun i h1 h2 => (ft _ (c.ox i h1 h2)).1
  have se : ∀ j : Nat, j < 5 → ∀ n l, AL h l (e j) n → sm h h' (e j) := by
    intro j hj n l a
    rcases a.c with q | q
    · exact (ft _ ((c.oe j hj).1 q.1)).1
    · exact f7' _ q.2.1
  have s0 : sm h h' x := sx 0 (by omega) (by omega)
  have s1 := sx 1 (by omega) (by omega)
  have s2 := sx 2 (by omega) (by omega)
  have s3 := sx 3 (by omega) (by omega)
  have s4 := sx 4 (by omega) (by omega)
  have s5 := sx 5 (by omega) (by omega)
  have s7 := sx 7 (by omega) (by omega)
  have s264 := sx 264 (by omega) (by omega)
  have s265 := sx 265 (by omega) (by omega)
  have sl : sm h h' lw := f lw (by rw [c.kL]; unfold imK; omega)
  have e0 := se 0 (by omega) _ _ c.a0
  have e1 := se 1 (by omega) _ _ c.a1
  have e2 := se 2 (by omega) _ _ c.a2
  have e3 := se 3 (by omega) _ _ c.a3
  have e4 := se 4 (by omega) _ _ c.a4
  refine ⟨by rw [s0.1]; exact c.k, by rw [s0.2.2.2.2]; exact c.r0, by rw [s0.2.2.2.2]; exact c.r1, by rw [s0.2.2.2.2]; exact c.r2, by rw [s0.2.2.2.2]; exact c.r3, by rw [s0.2.2.2.2]; exact c.r4, by rw [s0.2.2.2.2]; exact c.r5, by rw [s0.2.2.2.2]; exact c.r6, by rw [s0.2.2.2.2]; exact c.r7, by rw [s0.2.2.2.2]; exact c.r8, by rw [s0.2.2.1]; exact c.i9, by rw [s0.2.2.1]; exact c.i10, by rw [s0.2.2.2.1]; exact c.j11,
    by rw [s7.1]; exact c.kb, by rw [s7.2.1]; exact c.lb, fun k hk => ?_, by rw [s264.1]; exact c.kl, by rw [s264.2.1]; exact c.ll, fun i hi => by rw [s264.2.2.1]; exact c.l i hi, by rw [s265.1]; exact c.kw, by rw [s265.2.1]; exact c.lw_, fun s hs => ?_,
    by rw [sl.1]; exact c.kL, by rw [sl.2.2.1]; exact c.L0, by rw [sl.2.2.1]; exact c.L1, by rw [sl.2.2.1]; exact c.L2, by rw [sl.2.2.1]; exact c.L3, by rw [sl.2.2.1]; exact c.L4,
    c.a0.fr s1 e0 h3, c.a1.fr s2 e1 h3, c.a2.fr s3 e2 h3, c.a3.fr s4 e3 h3, c.a4.fr s5 e4 h3, fun i hi => ?_, fun k hk => ?_, fun k hk => ?_, fun k hk => ?_, fun k hk => ?_, c.rg, fun i h1 h2 => (ft _ (c.ox i h1 h2)).2, fun j hj => ?_, fun j k hj hk q1 q2 => ?_, fun i hi => ⟨(ft _ (c.os i hi).1).2, (c.os i hi).2⟩, c.ns, c.zz⟩
  · obtain ⟨k1, k2, k3, k4⟩ := c.b k hk
    have sk := sx (8 + k) (by omega) (by omega)
    rw [show x + (8 + k) = x + 8 + k by omega] at sk
    exact ⟨by rw [s7.2.2.2.2]; exact k1, by rw [sk.1]; exact k2, by rw [sk.2.1]; exact k3, fun s hs => by rw [sk.2.2.1]; exact k4 s hs⟩
  · obtain ⟨k1, k2, k3, k4⟩ := c.w s hs
    have sk := sx (266 + s) (by omega) (by omega)
    rw [show x + (266 + s) = x + 266 + s by omega] at sk
    exact ⟨by rw [s265.2.2.2.2]; exact k1, by rw [sk.1]; exact k2, by rw [sk.2.1]; exact k3, fun l hl => by rw [sk.2.2.1]; exact k4 l hl⟩
  · obtain ⟨k1, k2⟩ := c.st i hi
    exact ⟨by rw [e0.2.2.2.2]; exact k1, k2.fr f f6 f7' h3 (ft _ (c.os i hi).1).1⟩
  · obtain ⟨k1, k2, k3, k4, k5, k6⟩ := c.dr k hk
    have sk : sm h h' (el 1 k) := f _ (by rw [k2]; unfold imK; omega)
    exact ⟨by rw [e1.2.2.2.2]; exact k1, by rw [sk.1]; exact k2, by rw [sk.2.2.1]; exact k3, by rw [sk.2.2.1]; exact k4, by rw [sk.2.2.1]; exact k5, by rw [sk.2.2.1]; exact k6⟩
  · obtain ⟨k1, k2, k3, k4, k5⟩ := c.ch k hk
    have sk : sm h h' (el 2 k) := f _ (by rw [k2]; unfold imK; omega)
    exact ⟨by rw [e2.2.2.2.2]; exact k1, by rw [sk.1]; exact k2, by rw [sk.2.2.1]; exact k3, by rw [sk.2.2.1]; exact k4, by rw [sk.2.2.1]; exact k5⟩
  · obtain ⟨k1, k2, k3, k4, k5, k6, k7⟩ := c.ri k hk
    have sk := f6 _ k3
    refine ⟨by rw [e3.2.2.2.2]; exact k1, by rw [sk.1.1]; exact k2, sk.2, k4, by rw [sk.1.2.1]; exact k5, k6, fun j hj => ?_⟩
    rw [sk.1.2.1] at hj
    rw [sk.1.2.2.1]
    exact k7 j hj
  · obtain ⟨k1, k2, k3, k4, k5⟩ := c.to k hk
    have sk := f6 _ k3
    exact ⟨by rw [e4.2.2.2.2]; exact k1, by rw [sk.1.1]; exact k2, sk.2, by rw [sk.1.2.1]; exact k4, fun s hs => by rw [sk.1.2.2.1]; exact k5 s hs⟩
  · have hj5 : sm h h' (e j) := by
      rcases (show j = 0 ∨ j = 1 ∨ j = 2 ∨ j = 3 ∨ j = 4 by omega) with rfl | rfl | rfl | rfl | rfl
      · exact e0
      · exact e1
      · exact e2
      · exact e3
      · exact e4
    obtain ⟨k1, k2, k3⟩ := c.oe j hj
    rw [hj5.1]
    exact ⟨fun q => (ft _ (k1 q)).2, fun q => (f7 _ q).2 (k2 q), k3⟩
  · have hj5 : sm h h' (e j) := by
      rcases (show j = 0 ∨ j = 1 ∨ j = 2 ∨ j = 3 ∨ j = 4 by omega) with rfl | rfl | rfl | rfl | rfl
      · exact e0
      · exact e1
      · exact e2
      · exact e3
      · exact e4
    rw [hj5.1] at q1
    exact c.ne j k hj hk q1 q2
