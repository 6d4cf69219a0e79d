/-! PURE F: terms: what is told in signs, what lies as objects, and what both are worth -/
set_option maxRecDepth 100000
/-- the reference's heap changed in ints and longs of some cells alone -/
def tf (P : Nat → Prop) (h h' : AH) : Prop := hn h' = hn h ∧ hc h' = hc h ∧ hs h' = hs h ∧ hK h' = hK h ∧ hL h' = hL h ∧ hR h' = hR h ∧ ∀ a, ¬ P a → hI h' a = hI h a ∧ hJ h' a = hJ h a
theorem tf.rfl {P : Nat → Prop} {h : AH} : tf P h h := ⟨Eq.refl _, Eq.refl _, Eq.refl _, Eq.refl _, Eq.refl _, Eq.refl _, fun _ _ => ⟨Eq.refl _, Eq.refl _⟩⟩
theorem tf.trans {P : Nat → Prop} {h h1 h2 : AH} (p : tf P h h1) (q : tf P h1 h2) : tf P h h2 := ⟨q.1.trans p.1, q.2.1.trans p.2.1, q.2.2.1.trans p.2.2.1, q.2.2.2.1.trans p.2.2.2.1, q.2.2.2.2.1.trans p.2.2.2.2.1, q.2.2.2.2.2.1.trans p.2.2.2.2.2.1, fun a ha => ⟨(q.2.2.2.2.2.2 a ha).1.trans (p.2.2.2.2.2.2 a ha).1, (q.2.2.2.2.2.2 a ha).2.trans (p.2.2.2.2.2.2 a ha).2⟩⟩
theorem tf.mono {P P' : Nat → Prop} {h h1 : AH} (p : tf P h h1) (k : ∀ a, P a → P' a) : tf P' h h1 := ⟨p.1, p.2.1, p.2.2.1, p.2.2.2.1, p.2.2.2.2.1, p.2.2.2.2.2.1, fun a ha => p.2.2.2.2.2.2 a (fun q => ha (k a q))⟩
theorem tf_wI {P : Nat → Prop} {h : AH} {a k : Nat} {x : Int32} (ha : P a) : tf P h (wI h a k x) := ⟨Eq.refl _, Eq.refl _, Eq.refl _, Eq.refl _, Eq.refl _, Eq.refl _, fun b hb => ⟨(sm_wI (h := h) (a := a) (k := k) (b := b) (x := x) (by intro e; subst e; exact hb ha)).2.2.1, Eq.refl _⟩⟩
theorem tf_wJ {P : Nat → Prop} {h : AH} {a k : Nat} {x : Int64} (ha : P a) : tf P h (wJ h a k x) := ⟨Eq.refl _, Eq.refl _, Eq.refl _, Eq.refl _, Eq.refl _, Eq.refl _, fun b hb => ⟨Eq.refl _, (sm_wJ (h := h) (a := a) (k := k) (b := b) (x := x) (by intro e; subst e; exact hb ha)).2.2.2.1⟩⟩
theorem tf.K {P : Nat → Prop} {h h' : AH} (t : tf P h h') : hK h' = hK h := t.2.2.2.1
theorem tf.L {P : Nat → Prop} {h h' : AH} (t : tf P h h') : hL h' = hL h := t.2.2.2.2.1
theorem tf.R {P : Nat → Prop} {h h' : AH} (t : tf P h h') : hR h' = hR h := t.2.2.2.2.2.1
theorem tf.I {P : Nat → Prop} {h h' : AH} (t : tf P h h') {a : Nat} (ha : ¬ P a) : hI h' a = hI h a := (t.2.2.2.2.2.2 a ha).1
theorem tf.J {P : Nat → Prop} {h h' : AH} (t : tf P h h') {a : Nat} (ha : ¬ P a) : hJ h' a = hJ h a := (t.2.2.2.2.2.2 a ha).2
theorem TS.tf {P : Nat → Prop} {h h' : AH} {m : Nat} (s : TS h m) (t : tf P h h') : TS h' m := by
  unfold TS at s ⊢
  rw [t.K, t.L, t.R]
  exact s
theorem TN.tf {P : Nat → Prop} {h h' : AH} {m : Nat} {τ : Nat → Int} (s : TN h m τ) (t : tf P h h') (hm : ¬ P (m + 1)) : TN h' m τ := ⟨s.1.tf t, fun i => by rw [t.I hm]; exact s.2.1 i, s.2.2⟩
def opS (k : Int) (a b : Int32) : Int32 := if k = 110 then a + b else if k = 111 then a - b else if k = 112 then (if b ≤ a then 0 else 1) else if k = 113 then (if a = b then 1 else 0) else if k = 114 then (if a ≤ b then 0 else 1) else if k = 116 then a &&& b else a ||| b
def chS (k : Int) : Int := if k = 110 then 43 else if k = 111 then 45 else if k = 112 then 60 else if k = 113 then 61 else if k = 114 then 62 else if k = 116 then 38 else 124
/-- the objects at a are the signs from p to q; b: a condition -/
def TermE (σ : Nat → Int) (g : AH) : Nat → Bool → Nat → Nat → Nat → Prop
  | 0, _, _, _, _ => False
  | n + 1, b, a, p, q =>
    (b = false ∧ hK g a = 23 ∧ q = p + 1 ∧ 0 ≤ σ p ∧ σ p ≤ 99 ∧ hI g a 0 = iI (σ p)) ∨
    (b = false ∧ hK g a = 24 ∧ q = p + 1 ∧ 100 ≤ σ p ∧ σ p ≤ 108 ∧ hI g a 0 = iI (σ p - 100)) ∨
    (b = true ∧ hK g a = 22 ∧ ∃ c r, hR g a 0 = some c ∧ q = r + 1 ∧ σ r = 115 ∧ TermE σ g n true c p r) ∨
    (hK g a = 25 ∧ ∃ c d r r2, hR g a 1 = some c ∧ hR g a 2 = some d ∧ q = r2 + 1 ∧ hI g a 0 = iI (chS (σ r2)) ∧
      ((b = false ∧ (σ r2 = 110 ∨ σ r2 = 111) ∧ TermE σ g n false c p r ∧ TermE σ g n false d r r2) ∨
       (b = true ∧ (σ r2 = 112 ∨ σ r2 = 113 ∨ σ r2 = 114) ∧ TermE σ g n false c p r ∧ TermE σ g n false d r r2) ∨
       (b = true ∧ (σ r2 = 116 ∨ σ r2 = 117) ∧ TermE σ g n true c p r ∧ TermE σ g n true d r r2)))
theorem TermE.lt {σ : Nat → Int} {g : AH} : ∀ (n : Nat) (b : Bool) (a p q : Nat), TermE σ g n b a p q → p < q := by
  intro n
  induction n with
  | zero => intro b a p q h; exact h.elim
  | succ n ih =>
    intro b a p q h
    rcases h with ⟨_, _, h, _⟩ | ⟨_, _, h, _⟩ | ⟨_, _, c, r, _, h, _, h2⟩ | ⟨_, c, d, r, r2, _, _, h, _, h2⟩
    · omega
    · omega
    · have := ih _ _ _ _ h2
      omega
    · rcases h2 with ⟨_, _, h3, h4⟩ | ⟨_, _, h3, h4⟩ | ⟨_, _, h3, h4⟩
      all_goals
        have := ih _ _ _ _ h3
        have := ih _ _ _ _ h4
        omega
theorem both_eq (h : AH) {k : Int} (hk : i31 k) (h115 : k ≠ 115) (a b : Int32) : F_X8_both h (iI k) a b = some (opS k a b) := by
  unfold F_X8_both opS B_X8_both_62 B_X8_both_73 B_X8_both_84 B_X8_both_89
  simp (disch := omega) only [i_lit, i_eq, h115, if_false]
  repeat' split
  all_goals first | rfl | simp_all
theorem Two_eq {g : AH} {self : Nat → Nat → Option Int32} {a c d f : Nat} {k : Int} {v w : Int32} (hk : k = 110 ∨ k = 111 ∨ k = 112 ∨ k = 113 ∨ k = 114 ∨ k = 116 ∨ k = 117) (h1 : hK g a = 25) (h2 : hR g a 1 = some c) (h3 : hR g a 2 = some d) (h4 : hI g a 0 = iI (chS k)) (h5 : self c f = some v) (h6 : self d f = some w) : F_X25_of g self a f = some (opS k v w) := by
  unfold F_X25_of B_X25_of_102 B_X25_of_116 B_X25_of_130 F_X25_bit B_X25_bit_9
  rcases hk with rfl | rfl | rfl | rfl | rfl | rfl | rfl
  all_goals
    simp (disch := decide) only [h1, h2, h3, h4, h5, h6, chS, opS, gd_T, bd_t, if_true, if_false, i_lit, i_eq, Int.reduceEq]
    repeat' split
    all_goals first | rfl | simp_all
theorem bl_op {k : Int} {v w : Int32} (hk : (k = 112 ∨ k = 113 ∨ k = 114) ∨ ((k = 116 ∨ k = 117) ∧ bl v ∧ bl w)) : bl (opS k v w) := by
  rcases hk with hk | ⟨hk, h1 | h1, h2 | h2⟩
  · rcases hk with rfl | rfl | rfl
    all_goals
      unfold opS
      simp only [if_true, if_false, Int.reduceEq]
      split
      · first | exact Or.inl rfl | exact Or.inr rfl
      · first | exact Or.inl rfl | exact Or.inr rfl
  all_goals
    subst h1
    subst h2
    rcases hk with rfl | rfl
    · decide
    · decide
