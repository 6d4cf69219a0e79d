/-! PURE Q: one call on both sides -/
set_option maxRecDepth 100000
def Rx (hC hT : AH) (z m : Nat) : Prop := ∃ (o : Nat → Nat) (x : Nat) (τ : Nat → Int) (υ : Nat → Int64) (e : Nat → Nat) (el : Nat → Nat → Nat) (lw : Nat), RL o hC hT z m x τ υ e el lw
/-- room for a call, and the law's own cell -/
def rm (z : Nat) (h : AH) : Prop := 9000 ≤ hc h ∧ 100000 ≤ hs h ∧ hK h (z + 495) = 102 ∧ hL h (z + 495) = 1 ∧ ∀ a, z + 474 ≤ a → a ≤ z + 495 → ¬ imK (hK h a)
/-- what the component's call may change -/
def FC (z : Nat) (h h' : AH) : Prop := ex h h' 9000 100000 ∧ (∀ a, z + 474 ≤ a → a ≤ z + 494 → sm h h' a) ∧ hK h' (z + 495) = hK h (z + 495) ∧ hL h' (z + 495) = hL h (z + 495)
/-- what the reference's call may change -/
def FT (m : Nat) (h h' : AH) : Prop := tf (fun a => m ≤ a ∧ a ≤ m + 20) h h'
theorem glue {α β : Type} {z m : Nat} {f : AH → Option α} {g : AH → Option β} {pa : α → AH} {pb : β → AH} {V : α → β → Prop} (H : ∀ hC hT, Rx hC hT z m → rm z hC → Ok2 (f hC) (g hT) (fun a b => V a b ∧ FC z hC (pa a) ∧ FT m hT (pb b) ∧ Rx (pa a) (pb b) z m)) {h : AH} (inv : Rx h h z m) (hr : rm z h) :
    ∃ a b, f h = some a ∧ g (pa a) = some b ∧ V a b ∧ Rx (pb b) (pb b) z m ∧ ex h (pb b) 9000 100000 ∧ hK (pb b) (z + 495) = 102 ∧ hL (pb b) (z + 495) = 1 ∧ (∀ a, z + 474 ≤ a → a ≤ z + 495 → ¬ imK (hK (pb b) a)) ∧ hK (pb b) = hK (pa a) ∧ hL (pb b) = hL (pa a) ∧ hJ (pb b) (z + 495) = hJ (pa a) (z + 495) ∧ hK (pa a) m = 8 := by
  obtain ⟨a0, b0, h1, -, -, h2, -, -⟩ := H h h inv hr
  obtain ⟨o, x, τ, υ, e, el, lw, r⟩ := inv
  have hm := r.m
  have inv2 : Rx h (pa a0) z m := by
    refine ⟨o, x, τ, υ, e, el, lw, r.scT ?_⟩
    have ts := r.tn.s
    have s : ∀ j : Nat, j ≤ 20 → sm h (pa a0) (m + j) := fun j hj => h2.2.1 (m + j) (by omega) (by omega)
    have s0 : sm h (pa a0) m := s 0 (by omega)
    refine ⟨?_, fun a ha => ?_, by rw [s0.2.2.1], by rw [s0.2.2.1], by rw [s0.2.2.1], by rw [s0.2.2.2.1], by rw [s0.2.2.2.1]⟩
    · unfold TS at ts ⊢
      rw [s0.1, s0.2.2.2.2, (s 1 (by omega)).1, (s 1 (by omega)).2.1, (s 2 (by omega)).1, (s 2 (by omega)).2.1, (s 3 (by omega)).1, (s 3 (by omega)).2.1, (s 4 (by omega)).1, (s 4 (by omega)).2.1, (s 5 (by omega)).1, (s 5 (by omega)).2.1, (s 6 (by omega)).1, (s 6 (by omega)).2.1, (s 7 (by omega)).1, (s 7 (by omega)).2.1, (s 8 (by omega)).1, (s 8 (by omega)).2.1, (s 9 (by omega)).1, (s 9 (by omega)).2.1, (s 10 (by omega)).1, (s 10 (by omega)).2.1, (s 11 (by omega)).1, (s 11 (by omega)).2.1, (s 12 (by omega)).1, (s 12 (by omega)).2.1, (s 13 (by omega)).1, (s 13 (by omega)).2.1, (s 14 (by omega)).1, (s 14 (by omega)).2.1, (s 15 (by omega)).1, (s 15 (by omega)).2.1, (s 16 (by omega)).1, (s 16 (by omega)).2.1, (s 17 (by omega)).1, (s 17 (by omega)).2.1, (s 18 (by omega)).1, (s 18 (by omega)).2.1, (s 19 (by omega)).1, (s 19 (by omega)).2.1, (s 20 (by omega)).1, (s 20 (by omega)).2.1]
      exact ts
    · have sa := h2.2.1 a (by omega) (by omega)
      exact ⟨sa.2.2.1, sa.2.2.2.1⟩
  obtain ⟨a, b, k1, k2, k3, k4, k5, k6⟩ := H h (pa a0) inv2 hr
  rw [h1] at k1
  cases k1
  obtain ⟨o', x', τ', υ', e', el', lw', r'⟩ := k6
  have hk : hK (pa a0) m = 8 := by
    have := (h2.2.1 m (by omega) (by omega)).1
    rw [this]
    exact r.tn.s.k
  have hi : ∀ a, z + 474 ≤ a → a ≤ z + 495 → ¬ imK (hK (pa a0) a) := by
    intro a ha hb
    by_cases q : a = z + 495
    · subst q
      rw [h2.2.2.1]
      exact hr.2.2.2.2 _ (by omega) (by omega)
    · rw [(h2.2.1 a ha (by omega)).1]
      exact hr.2.2.2.2 a ha hb
  refine ⟨a0, b, h1, k2, k3, ⟨o', x', τ', υ', e', el', lw', r'.scC hi ?_⟩, ?_, by rw [k5.K, h2.2.2.1]; exact hr.2.2.1, by rw [k5.L, h2.2.2.2]; exact hr.2.2.2.1, by rw [k5.K]; exact hi, k5.K, k5.L, k5.J (by omega), hk⟩
  · have sm' : ∀ a, ¬ (m ≤ a ∧ a ≤ m + 20) → sm (pa a0) (pb b) a := fun a q => ⟨by rw [k5.K], by rw [k5.L], k5.I q, k5.J q, by rw [k5.R]⟩
    have sz := sm' z (by omega)
    exact ⟨k5.1, k5.K, k5.L, k5.R, fun a q => sm' a (by omega), by rw [sz.2.2.1], by rw [sz.2.2.1], by rw [sz.2.2.1], by rw [sz.2.2.2.1], by rw [sz.2.2.2.1]⟩
  · have e1 := h2.1
    unfold ex at e1 ⊢
    rw [k5.1, k5.2.1, k5.2.2.1]
    exact e1
theorem CS.mk9 {h h' : AH} {c : Nat} (t : CS h c) (s : ∀ a, (a = c ∨ (c + 269 ≤ a ∧ a ≤ c + 473)) → sm h h' a) : CS h' c := ⟨by rw [(s c (by omega)).1]; exact t.k,
  by rw [(s c (by omega)).2.2.2.2]; exact t.r269,
  by rw [(s (c + 269) (by omega)).1]; exact t.k269,
  by rw [(s (c + 269) (by omega)).2.1]; exact t.l269,
  by rw [(s c (by omega)).2.2.2.2]; exact t.r270,
  by rw [(s (c + 270) (by omega)).1]; exact t.k270,
  by rw [(s (c + 270) (by omega)).2.1]; exact t.l270,
  by rw [(s c (by omega)).2.2.2.2]; exact t.r271,
  by rw [(s (c + 271) (by omega)).1]; exact t.k271,
  by rw [(s c (by omega)).2.2.2.2]; exact t.r272,
  by rw [(s (c + 272) (by omega)).1]; exact t.k272,
  by rw [(s c (by omega)).2.2.2.2]; exact t.r273,
  by rw [(s (c + 273) (by omega)).1]; exact t.k273,
  by rw [(s (c + 273) (by omega)).2.1]; exact t.l273,
  by rw [(s c (by omega)).2.2.2.2]; exact t.r274,
  by rw [(s (c + 274) (by omega)).1]; exact t.k274,
  by rw [(s (c + 274) (by omega)).2.1]; exact t.l274,
  by rw [(s c (by omega)).2.2.2.2]; exact t.r275,
  by rw [(s (c + 275) (by omega)).1]; exact t.k275,
  by rw [(s (c + 275) (by omega)).2.1]; exact t.l275,
  by rw [(s c (by omega)).2.2.2.2]; exact t.r276,
  by rw [(s (c + 276) (by omega)).1]; exact t.k276,
  by rw [(s (c + 276) (by omega)).2.1]; exact t.l276,
  by rw [(s c (by omega)).2.2.2.2]; exact t.r285,
  by rw [(s (c + 285) (by omega)).1]; exact t.k285,
  by rw [(s (c + 285) (by omega)).2.1]; exact t.l285,
  by rw [(s c (by omega)).2.2.2.2]; exact t.r294,
  by rw [(s (c + 294) (by omega)).1]; exact t.k294,
  by rw [(s (c + 294) (by omega)).2.1]; exact t.l294,
  by rw [(s c (by omega)).2.2.2.2]; exact t.r336,
  by rw [(s (c + 336) (by omega)).1]; exact t.k336,
  by rw [(s (c + 336) (by omega)).2.1]; exact t.l336,
  by rw [(s c (by omega)).2.2.2.2]; exact t.r378,
  by rw [(s (c + 378) (by omega)).1]; exact t.k378,
  by rw [(s (c + 378) (by omega)).2.1]; exact t.l378,
  by rw [(s c (by omega)).2.2.2.2]; exact t.r420,
  by rw [(s (c + 420) (by omega)).1]; exact t.k420,
  by rw [(s c (by omega)).2.2.2.2]; exact t.r439,
  by rw [(s (c + 439) (by omega)).1]; exact t.k439,
  by rw [(s (c + 439) (by omega)).2.1]; exact t.l439,
  by rw [(s c (by omega)).2.2.2.2]; exact t.r444,
  by rw [(s (c + 444) (by omega)).1]; exact t.k444,
  by rw [(s (c + 444) (by omega)).2.1]; exact t.l444,
  by rw [(s (c + 421) (by omega)).1]; exact t.k421,
  by rw [(s (c + 421) (by omega)).2.1]; exact t.l421,
  by rw [(s (c + 430) (by omega)).1]; exact t.k430,
  by rw [(s (c + 430) (by omega)).2.1]; exact t.l430,
  by rw [(s (c + 420) (by omega)).2.2.2.2]; exact t.ra,
  by rw [(s (c + 420) (by omega)).2.2.2.2]; exact t.rb,
  by rw [(s (c + 420) (by omega)).2.2.2.2]; exact t.rt,
  by rw [(s (c + 271) (by omega)).2.2.2.2]; exact t.r4,
  by rw [(s (c + 272) (by omega)).2.2.2.2]; exact t.r5,
  fun i hi => ⟨by rw [(s (c + 276) (by omega)).2.2.2.2]; exact (t.w276 i hi).1, by rw [(s (c + 277 + i) (by omega)).1]; exact (t.w276 i hi).2.1, by rw [(s (c + 277 + i) (by omega)).2.1]; exact (t.w276 i hi).2.2⟩,
  fun i hi => ⟨by rw [(s (c + 285) (by omega)).2.2.2.2]; exact (t.w285 i hi).1, by rw [(s (c + 286 + i) (by omega)).1]; exact (t.w285 i hi).2.1, by rw [(s (c + 286 + i) (by omega)).2.1]; exact (t.w285 i hi).2.2⟩,
  fun i hi => ⟨by rw [(s (c + 294) (by omega)).2.2.2.2]; exact (t.w294 i hi).1, by rw [(s (c + 295 + i) (by omega)).1]; exact (t.w294 i hi).2.1, by rw [(s (c + 295 + i) (by omega)).2.1]; exact (t.w294 i hi).2.2⟩,
  fun i hi => ⟨by rw [(s (c + 336) (by omega)).2.2.2.2]; exact (t.w336 i hi).1, by rw [(s (c + 337 + i) (by omega)).1]; exact (t.w336 i hi).2.1, by rw [(s (c + 337 + i) (by omega)).2.1]; exact (t.w336 i hi).2.2⟩,
  fun i hi => ⟨by rw [(s (c + 378) (by omega)).2.2.2.2]; exact (t.w378 i hi).1, by rw [(s (c + 379 + i) (by omega)).1]; exact (t.w378 i hi).2.1, by rw [(s (c + 379 + i) (by omega)).2.1]; exact (t.w378 i hi).2.2⟩,
  fun i hi => ⟨by rw [(s (c + 421) (by omega)).2.2.2.2]; exact (t.w421 i hi).1, by rw [(s (c + 422 + i) (by omega)).1]; exact (t.w421 i hi).2.1, by rw [(s (c + 422 + i) (by omega)).2.1]; exact (t.w421 i hi).2.2⟩,
  fun i hi => ⟨by rw [(s (c + 430) (by omega)).2.2.2.2]; exact (t.w430 i hi).1, by rw [(s (c + 431 + i) (by omega)).1]; exact (t.w430 i hi).2.1, by rw [(s (c + 431 + i) (by omega)).2.1]; exact (t.w430 i hi).2.2⟩,
  fun i hi => ⟨by rw [(s (c + 444) (by omega)).2.2.2.2]; exact (t.w444 i hi).1, by rw [(s (c + 445 + i) (by omega)).1]; exact (t.w444 i hi).2.1, by rw [(s (c + 445 + i) (by omega)).2.1]; exact (t.w444 i hi).2.2⟩,
  fun i hi => ⟨by rw [(s (c + 439) (by omega)).2.2.2.2]; exact (t.wt i hi).1, by rw [(s (c + 440 + i) (by omega)).1]; exact (t.wt i hi).2⟩⟩
/-! the component's little throws -/
theorem right_t (h : AH) : F_X1_right h (iI 1) = some (.inl ((), h)) := rfl
theorem there_t (h : AH) : F_X1_there h (iI 1) = some (.inl ((), h)) := rfl
theorem can_t (h : AH) : F_X1_can h (iI 1) = some (.inl ((), h)) := rfl
theorem right_f {h : AH} (g : 1 ≤ hc h ∧ 6 ≤ hs h) : F_X1_right h (iI 0) = some (.inr (2, hn h, nw h 0 0 6)) := by
  unfold F_X1_right
  rw [if_pos (by decide), gd_t _ g]
theorem there_f {h : AH} (g : 1 ≤ hc h ∧ 6 ≤ hs h) : F_X1_there h (iI 0) = some (.inr (3, hn h, nw h 0 0 6)) := by
  unfold F_X1_there
  rw [if_pos (by decide), gd_t _ g]
theorem can_f {h : AH} (g : 1 ≤ hc h ∧ 6 ≤ hs h) : F_X1_can h (iI 0) = some (.inr (1, hn h, nw h 0 0 6)) := by
  unfold F_X1_can
  rw [if_pos (by decide), gd_t _ g]
theorem within_f {h : AH} (g : 1 ≤ hc h ∧ 6 ≤ hs h) : F_X1_within h (iI 0) = some (.inr (4, hn h, nw h 0 0 6)) := by
  unfold F_X1_within
  rw [if_pos (by decide), gd_t _ g]
theorem within_t (h : AH) : F_X1_within h (iI 1) = some (.inl ((), h)) := rfl
theorem RL.grow {o : Nat → Nat} {hC hC' hT : AH} {z m x : Nat} {τ : Nat → Int} {υ : Nat → Int64} {e : Nat → Nat} {el : Nat → Nat → Nat} {lw : Nat} (r : RL o hC hT z m x τ υ e el lw) (s : ∀ a, a < hn hC → sm hC hC' a) (h1 : hn hC ≤ hn hC') (h2 : ∀ a, hn hC' ≤ a → hK hC' a = 0) (h3 : ∀ a, hn hC ≤ a → hK hC' a ≠ 120) : RL o hC' hT z m x τ υ e el lw := by
  have hlt : ∀ a, o a ≠ 0 → a < hn hC := fun a ha => Nat.lt_of_not_le fun q => ha (r.ho a q).2
  have hkl : ∀ a, hK hC a ≠ 0 → a < hn hC := fun a ha => Nat.lt_of_not_le fun q => ha (r.ho a q).1
  have hz := r.hnz
  have h0 := s 0 (by omega)
  have sz := s z (by omega)
  have crf : ∀ (t x : Nat) (τ : Nat → Int) (υ : Nat → Int64) (e : Nat → Nat) (el : Nat → Nat → Nat) (lw : Nat), t ≠ 0 → CrP o t hC x τ υ e el lw → CrP o t hC' x τ υ e el lw := fun t x τ υ e el lw ht c => c.fr (fun a q => s a (hkl a (by unfold imK at q; omega))) (fun a q => ⟨s a (hlt a (by omega)), q⟩) (fun a q => ⟨s a (hkl a (by omega)), fun w => w⟩) (by rw [h0.2.2.2.2]) (fun a q => ⟨s a (hlt a (by omega)), q⟩)
  obtain ⟨T, t1, t2, t3, t4⟩ := r.tp
  refine ⟨r.m, ?_, by rw [sz.2.2.2.2]; exact r.hz, r.ow, crf _ _ _ _ _ _ _ (by omega) r.c, r.tn, r.tj, fun i hi => (r.im i hi).frC (by rw [(s (z + 269) (by omega)).2.2.2.2]) (fun _ _ _ _ _ _ q => crf _ _ _ _ _ _ _ (by omega) q), fun i hi => (r.tr i hi).frC (by rw [(s (z + 440 + i) (by omega)).2.2.2.2]) (fun a q => s a (hlt a (by omega))), ⟨T, t1, by rw [sz.2.2.1]; exact t2, t3, fun k hk => by rw [(s (z + 270) (by omega)).2.2.1]; exact t4 k hk⟩, by rw [sz.2.2.1]; exact r.f4, by rw [sz.2.2.1]; exact r.f5, by rw [sz.2.2.2.1]; exact r.j11, by rw [sz.2.2.2.1]; exact r.j12, fun a ha => ⟨h2 a ha, (r.ho a (by omega)).2⟩, ⟨by omega, hz.2⟩, ?_, ?_, r.o0⟩
  · have cs := r.cs
    refine CS.mk9 cs (fun a h1 => s a (by omega))
  · obtain ⟨ε, e1, e2, e3⟩ := r.hε
    have se := s ε (hkl ε (by omega))
    exact ⟨ε, by rw [h0.2.2.2.2]; exact e1, by rw [se.1]; exact e2, by rw [se.2.1]; exact e3⟩
  · intro a ha
    have q : a < hn hC := Nat.lt_of_not_le fun q => h3 a q ha
    rw [(s a q).1] at ha
    exact r.h7 a ha
