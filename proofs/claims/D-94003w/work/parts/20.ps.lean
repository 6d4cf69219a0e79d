/-! PURE S: pictures rebuilt behind a change -/
set_option maxRecDepth 100000
/-- the relation behind a call that changed the crossing of now: M holds the old cells that were written -/
theorem RL.upd {o o' : Nat → Nat} {hC hC' hT hT' : AH} {z m x : Nat} {τ τ' : Nat → Int} {υ υ' : Nat → Int64} {e e' : Nat → Nat} {el el' : Nat → Nat → Nat} {lw lw' : Nat} (r : RL o hC hT z m x τ υ e el lw) (M : Nat → Prop) (hM : ∀ a, M a → o a = 2 ∧ ¬ imK (hK hC a) ∧ hK hC a ≠ 120) (s : ∀ a, a < hn hC → ¬ M a → sm hC hC' a) (sk : ∀ a, a < hn hC → hK hC' a = hK hC a) (h1 : hn hC ≤ hn hC') (h2 : ∀ a, hn hC' ≤ a → hK hC' a = 0 ∧ o' a = 0) (h3 : ∀ a, hn hC ≤ a → hK hC' a ≠ 120) (ho : ∀ a, a < hn hC → o' a = o a)
    (c' : CrP o' 2 hC' x τ' υ' e' el' lw') (tn' : TN hT' m τ') (tj' : ∀ i, hJ hT' (m + 3) i = υ' i) (w2 : hI hT' (m + 2) = hI hT (m + 2)) (w4 : hJ hT' (m + 4) = hJ hT (m + 4)) (w5 : hI hT' (m + 5) = hI hT (m + 5)) (w6 : hI hT' (m + 6) = hI hT (m + 6)) (w18 : hI hT' (m + 18) = hI hT (m + 18)) (w19 : hI hT' (m + 19) = hI hT (m + 19)) (w20 : hJ hT' (m + 20) = hJ hT (m + 20)) (v9 : hI hT' m 9 = hI hT m 9) (v18 : hI hT' m 18 = hI hT m 18) (v19 : hI hT' m 19 = hI hT m 19) (v26 : hJ hT' m 26 = hJ hT m 26) (v27 : hJ hT' m 27 = hJ hT m 27) : RL o' hC' hT' z m x τ' υ' e' el' lw' := by
  have lt : ∀ a, o a ≠ 0 → a < hn hC := fun a ha => Nat.lt_of_not_le fun q => ha (r.ho a q).2
  have ltk : ∀ a, hK hC a ≠ 0 → a < hn hC := fun a ha => Nat.lt_of_not_le fun q => ha (r.ho a q).1
  have s1 : ∀ a, o a ≠ 0 → o a ≠ 2 → sm hC hC' a ∧ o' a = o a := fun a q0 q2 => ⟨s a (lt a q0) (fun q => q2 (hM a q).1), ho a (lt a q0)⟩
  have hz := r.hnz
  have sf : ∀ a, (a = z ∨ (z + 269 ≤ a ∧ a ≤ z + 495)) → sm hC hC' a := fun a q => (s1 a (by rw [r.ow a q]; omega) (by rw [r.ow a q]; omega)).1
  have sz := sf z (by omega)
  obtain ⟨ε, e1, e2, e3⟩ := r.hε
  have o0 : ¬ M 0 := by
    intro q
    have := (hM 0 q).1
    have := r.o0
    omega
  have h00 : hR hC' 0 0 = hR hC 0 0 := by rw [(s 0 (by omega) o0).2.2.2.2]
  have crf : ∀ (t x : Nat) (τ : Nat → Int) (υ : Nat → Int64) (e : Nat → Nat) (el : Nat → Nat → Nat) (lw : Nat), t ≠ 0 → t ≠ 2 → CrP o t hC x τ υ e el lw → CrP o' t hC' x τ υ e el lw := fun t x τ υ e el lw t0 t2 c => c.fr (fun a q => s a (ltk a (by unfold imK at q; omega)) (fun w => (hM a w).2.1 q)) (fun a q => by have := s1 a (by omega) (by omega); exact ⟨this.1, by omega⟩) (fun a q => ⟨s a (ltk a (by omega)) (fun w => (hM a w).2.2 q), fun w => by rw [ho a (ltk a (by omega))]; exact w⟩) h00 (fun a q => by have := s1 a (by omega) (by omega); exact ⟨this.1, by omega⟩)
  obtain ⟨T, t1, t2, t3, t4⟩ := r.tp
  refine ⟨r.m, r.cs.mk9 (fun a q1 => sf a (by omega)), by rw [sz.2.2.2.2]; exact r.hz, fun a q => ?_, c', tn', tj', fun i hi => ((r.im i hi).frT w2 w4 w5).frC2 (by rw [(sf (z + 269) (by omega)).2.2.2.2]) (fun _ _ _ _ _ _ q => crf _ _ _ _ _ _ _ (by omega) (by omega) q), fun i hi => ((r.tr i hi).frT w18 w19 w20).frC2 (by rw [(sf (z + 440 + i) (by omega)).2.2.2.2]) (fun a q => by have := s1 a (by omega) (by omega); exact ⟨this.1, by omega⟩), ⟨T, t1, by rw [sz.2.2.1]; exact t2, by rw [v9]; exact t3, fun k hk => by rw [(sf (z + 270) (by omega)).2.2.1, w6]; exact t4 k hk⟩, by rw [sz.2.2.1, v18]; exact r.f4, by rw [sz.2.2.1, v19]; exact r.f5, by rw [sz.2.2.2.1, v26]; exact r.j11, by rw [sz.2.2.2.1, v27]; exact r.j12, h2, ⟨by omega, hz.2⟩, ?_, ?_, by rw [ho 0 (by omega)]; exact r.o0⟩
  · rw [ho a (by omega)]
    exact r.ow a q
  · have se := s ε (ltk ε (by omega)) (fun w => (hM ε w).2.2 e2)
    exact ⟨ε, by rw [h00]; exact e1, by rw [se.1]; exact e2, by rw [se.2.1]; exact e3⟩
  · intro a ha
    have q : a < hn hC := Nat.lt_of_not_le fun q => h3 a q ha
    rw [ho a q]
    by_cases w : M a
    · rw [sk a q] at ha
      exact absurd ha (hM a w).2.2
    · rw [(s a q w).1] at ha
      exact r.h7 a ha
theorem TermE.cg {σ σ' : Nat → Int} {g : AH} : ∀ (n : Nat) (b : Bool) (a p q : Nat), (∀ i, i < q → σ' i = σ i) → TermE σ g n b a p q → TermE σ' g n b a p q := by
  intro n
  induction n with
  | zero => intro b a p q _ h; exact h.elim
  | succ n ih =>
    intro b a p q hs h
    have hlt := TermE.lt _ _ _ _ _ h
    rcases h with ⟨e0, e1, e2, e3, e4, e5⟩ | ⟨e0, e1, e2, e3, e4, e5⟩ | ⟨e0, e1, c, r, e2, e3, e4, e5⟩ | ⟨e1, c, d, r, r2, e2, e3, e4, e5, e6⟩
    · have := hs p (by omega)
      exact Or.inl ⟨e0, e1, e2, by omega, by omega, by rw [this]; exact e5⟩
    · have := hs p (by omega)
      exact Or.inr (Or.inl ⟨e0, e1, e2, by omega, by omega, by rw [this]; exact e5⟩)
    · have := hs r (by omega)
      exact Or.inr (Or.inr (Or.inl ⟨e0, e1, c, r, e2, e3, by omega, ih _ _ _ _ (fun i hi => hs i (by omega)) e5⟩))
    · have := hs r2 (by omega)
      refine Or.inr (Or.inr (Or.inr ⟨e1, c, d, r, r2, e2, e3, e4, by rw [this]; exact e5, ?_⟩))
      rw [this]
      rcases e6 with ⟨k1, k2, k3, k4⟩ | ⟨k1, k2, k3, k4⟩ | ⟨k1, k2, k3, k4⟩
      all_goals have l4 := TermE.lt _ _ _ _ _ k4
      · exact Or.inl ⟨k1, k2, ih _ _ _ _ (fun i hi => hs i (by omega)) k3, ih _ _ _ _ (fun i hi => hs i (by omega)) k4⟩
      · exact Or.inr (Or.inl ⟨k1, k2, ih _ _ _ _ (fun i hi => hs i (by omega)) k3, ih _ _ _ _ (fun i hi => hs i (by omega)) k4⟩)
      · exact Or.inr (Or.inr ⟨k1, k2, ih _ _ _ _ (fun i hi => hs i (by omega)) k3, ih _ _ _ _ (fun i hi => hs i (by omega)) k4⟩)
theorem RuleE.cg {σ σ' : Nat → Int} {g : AH} {a p q : Nat} (hs : ∀ i, i < q → σ' i = σ i) (h : RuleE σ g a p q) : RuleE σ' g a p q := by
  obtain ⟨h1, ⟨mv, h2, h3⟩, h4, h5, h6⟩ := h
  have e0 := hs p (by omega)
  have e1 := hs (p + 1) (by omega)
  have e2 := hs (p + 2) (by omega)
  refine ⟨h1, ⟨mv, h2, ?_⟩, by rw [e2]; exact h4, by rw [e2]; exact h5, ?_⟩
  · unfold MoveE
    rw [e0, e1]
    exact h3
  · rw [e2]
    rcases h6 with h6 | ⟨h6, c, h7, h8⟩
    · exact Or.inl h6
    · exact Or.inr ⟨h6, c, h7, TermE.cg _ _ _ _ _ hs h8⟩
theorem RuP.cg {o : Nat → Nat} {σ σ' : Nat → Int} {g : AH} {rl : Nat} (hs : ∀ i, i < 440 → σ' i = σ i) (h : RuP o σ g rl) : RuP o σ' g rl := by
  obtain ⟨e, el, pos, h1, h2, h4, h5, h6, h7, h8⟩ := h
  have e0 := hs 0 (by omega)
  refine ⟨e, el, pos, by rw [e0]; exact h1, by omega, h4, h5, h6, fun r hr => h7 r (by omega), fun r hr => ?_⟩
  obtain ⟨k1, k2⟩ := h8 r (by omega)
  have := h7 (r + 1) (by omega)
  exact ⟨k1, k2.cg (fun i hi => hs i (by omega))⟩
theorem StP.cg {o : Nat → Nat} {h : AH} {a s : Nat} {τ τ' : Nat → Int} {υ υ' : Nat → Int64} (p : StP o h a τ υ s) (h8 : τ' (8 + s) = τ (8 + s)) (h16 : τ' (16 + s) = τ (16 + s)) (h12 : τ' (12 + s) = τ (12 + s)) (h24 : τ' (24 + s) = τ (24 + s)) (h20 : τ' (20 + s) = τ (20 + s)) (hu : υ' s = υ s) (hu4 : υ' (4 + s) = υ (4 + s)) (hr : ∀ i, i < 440 → τ' (125 + 440 * s + i) = τ (125 + 440 * s + i)) : StP o h a τ' υ' s := by
  obtain ⟨rl, r1, r2⟩ := p.r
  exact ⟨p.k, by rw [h8]; exact p.i0, by rw [h16]; exact p.i1, by rw [h12]; exact p.i2, by rw [h24]; exact p.i3, by rw [h20]; exact p.i4, by rw [hu]; exact p.j5, by rw [hu4]; exact p.j6, rl, r1, r2.cg hr⟩
theorem RL.keep {o o' : Nat → Nat} {hC hC' hT : AH} {z m x : Nat} {τ : Nat → Int} {υ : Nat → Int64} {e : Nat → Nat} {el : Nat → Nat → Nat} {lw : Nat} (r : RL o hC hT z m x τ υ e el lw) (M : Nat → Prop) (hM : ∀ a, M a → o a = 2 ∧ ¬ imK (hK hC a) ∧ hK hC a ≠ 120) (s : ∀ a, a < hn hC → ¬ M a → sm hC hC' a) (ho : ∀ a, a < hn hC → o' a = o a) :
    (∀ a, imK (hK hC a) → sm hC hC' a) ∧ (∀ a, o a = 6 → sm hC hC' a ∧ o' a = 6) ∧ (∀ a, hK hC a = 120 → sm hC hC' a ∧ (o a = 7 → o' a = 7)) ∧ hR hC' 0 0 = hR hC 0 0 ∧ (∀ a, o a = 2 → ¬ M a → sm hC hC' a) ∧ (∀ a, o a = 2 → o' a = 2) := by
  have lt : ∀ a, o a ≠ 0 → a < hn hC := fun a ha => Nat.lt_of_not_le fun q => ha (r.ho a q).2
  have ltk : ∀ a, hK hC a ≠ 0 → a < hn hC := fun a ha => Nat.lt_of_not_le fun q => ha (r.ho a q).1
  have hz := r.hnz
  have o0 : ¬ M 0 := by
    intro q
    have := (hM 0 q).1
    have := r.o0
    omega
  refine ⟨fun a q => s a (ltk a (by unfold imK at q; omega)) (fun w => (hM a w).2.1 q), fun a q => ⟨s a (lt a (by omega)) (fun w => by have := (hM a w).1; omega), by rw [ho a (lt a (by omega))]; exact q⟩, fun a q => ⟨s a (ltk a (by omega)) (fun w => (hM a w).2.2 q), fun w => by rw [ho a (ltk a (by omega))]; exact w⟩, by rw [(s 0 (by omega) o0).2.2.2.2], fun a q w => s a (lt a (by omega)) w, fun a q => by rw [ho a (lt a (by omega))]; exact q⟩
