/-! PURE YH: adding to the lists of the crossing -/
set_option maxRecDepth 100000
theorem RL.call0 {o : Nat → Nat} {hC hD hT : AH} {z m x : Nat} {τ : Nat → Int} {υ : Nat → Int64} {e : Nat → Nat} {el : Nat → Nat → Nat} {lw : Nat} (r : RL o hC hT z m x τ υ e el lw) {D : Nat} (d1 : hn hC ≤ D ∧ D < hn hD) (d2 : ∀ a, a < hn hC → sm hC hD a) (d3 : ∀ a, hn hD ≤ a → hK hD a = 0) (ov : okE (hK hD D)) (g : 1 ≤ hc hD ∧ 200 ≤ hs hD) : ∃ hC' e', F_J2_add hD (x + 1) D = some (iI 1, hC') ∧ AW hD hC' (x + 1) (e 0) e' (τ 0) D ∧ (∀ a, a < hn hC → o a ≠ 2 → sm hC hC' a) ∧ sm hC hC' x := by
  have c := r.c
  have hnz := r.hnz
  have hrg := c.rg.n
  have lt : ∀ a, o a ≠ 0 → a < hn hC := fun a ha => Nat.lt_of_not_le fun q => ha (r.ho a q).2
  have ltk : ∀ a, hK hC a ≠ 0 → a < hn hC := fun a ha => Nat.lt_of_not_le fun q => ha (r.ho a q).1
  have hcj := c.a0
  have kej : hK hC (e 0) = 108 ∨ hK hC (e 0) = 120 := by rcases hcj.c with w | w <;> omega
  have lej := ltk (e 0) (by omega)
  have ol0 : o (x + 1) = 2 := c.ox 1 (by omega) (by omega)
  have lx := lt (x + 1) (by omega)
  have a1 : AL hD (x + 1) (e 0) (τ 0) := hcj.fr (d2 _ lx) (d2 _ lej) (by rw [(d2 0 (by omega)).2.2.2.2])
  obtain ⟨hC', e', h1, h2⟩ := add_eq a1 (v := D) (by omega) ov (fun i hi => by
    rw [(d2 _ lej).2.2.2.2, (c.st i hi).1]
    have hk := (c.st i hi).2.k
    show decide (okE (hK hD (el 0 i))) = true
    rw [(d2 _ (ltk _ (by rw [hk]; omega))).1, hk]
    decide) g (by omega) (by omega) (by omega) d3
  have w10 := h2.2.2.2.2.2.2.2.2.2.1
  have w12 := h2.2.2.2.2.2.2.2.2.2.2.2.1
  refine ⟨hC', e', h1, h2, fun a ha hoa => ?_, ?_⟩
  · refine (d2 a ha).trans ?_
    by_cases q : a = e 0
    · rcases kej with w | w
      · rw [q, (c.oe 0 (by omega)).1 w] at hoa
        exact absurd rfl hoa
      · rw [q]
        exact w12 (by rw [(d2 _ lej).1]; exact w)
    · exact w10 a (fun w => by rw [w] at hoa; exact hoa ol0) q (by omega)
  · have xr := lt x (by rw [show o x = 2 from c.ox 0 (by omega) (by omega)]; omega)
    have := (c.oe 0 (by omega)).2.2
    exact (d2 x xr).trans (w10 x (by omega) (by omega) (by omega))
theorem RL.call1 {o : Nat → Nat} {hC hD hT : AH} {z m x : Nat} {τ : Nat → Int} {υ : Nat → Int64} {e : Nat → Nat} {el : Nat → Nat → Nat} {lw : Nat} (r : RL o hC hT z m x τ υ e el lw) {D : Nat} (d1 : hn hC ≤ D ∧ D < hn hD) (d2 : ∀ a, a < hn hC → sm hC hD a) (d3 : ∀ a, hn hD ≤ a → hK hD a = 0) (ov : okE (hK hD D)) (g : 1 ≤ hc hD ∧ 200 ≤ hs hD) : ∃ hC' e', F_J2_add hD (x + 2) D = some (iI 1, hC') ∧ AW hD hC' (x + 2) (e 1) e' (τ 1) D ∧ (∀ a, a < hn hC → o a ≠ 2 → sm hC hC' a) ∧ sm hC hC' x := by
  have c := r.c
  have hnz := r.hnz
  have hrg := c.rg.d
  have lt : ∀ a, o a ≠ 0 → a < hn hC := fun a ha => Nat.lt_of_not_le fun q => ha (r.ho a q).2
  have ltk : ∀ a, hK hC a ≠ 0 → a < hn hC := fun a ha => Nat.lt_of_not_le fun q => ha (r.ho a q).1
  have hcj := c.a1
  have kej : hK hC (e 1) = 108 ∨ hK hC (e 1) = 120 := by rcases hcj.c with w | w <;> omega
  have lej := ltk (e 1) (by omega)
  have ol0 : o (x + 2) = 2 := c.ox 2 (by omega) (by omega)
  have lx := lt (x + 2) (by omega)
  have a1 : AL hD (x + 2) (e 1) (τ 1) := hcj.fr (d2 _ lx) (d2 _ lej) (by rw [(d2 0 (by omega)).2.2.2.2])
  obtain ⟨hC', e', h1, h2⟩ := add_eq a1 (v := D) (by omega) ov (fun i hi => by
    rw [(d2 _ lej).2.2.2.2, (c.dr i hi).1]
    have hk := (c.dr i hi).2.1
    show decide (okE (hK hD (el 1 i))) = true
    rw [(d2 _ (ltk _ (by rw [hk]; omega))).1, hk]
    decide) g (by omega) (by omega) (by omega) d3
  have w10 := h2.2.2.2.2.2.2.2.2.2.1
  have w12 := h2.2.2.2.2.2.2.2.2.2.2.2.1
  refine ⟨hC', e', h1, h2, fun a ha hoa => ?_, ?_⟩
  · refine (d2 a ha).trans ?_
    by_cases q : a = e 1
    · rcases kej with w | w
      · rw [q, (c.oe 1 (by omega)).1 w] at hoa
        exact absurd rfl hoa
      · rw [q]
        exact w12 (by rw [(d2 _ lej).1]; exact w)
    · exact w10 a (fun w => by rw [w] at hoa; exact hoa ol0) q (by omega)
  · have xr := lt x (by rw [show o x = 2 from c.ox 0 (by omega) (by omega)]; omega)
    have := (c.oe 1 (by omega)).2.2
    exact (d2 x xr).trans (w10 x (by omega) (by omega) (by omega))
theorem RL.call2 {o : Nat → Nat} {hC hD hT : AH} {z m x : Nat} {τ : Nat → Int} {υ : Nat → Int64} {e : Nat → Nat} {el : Nat → Nat → Nat} {lw : Nat} (r : RL o hC hT z m x τ υ e el lw) {D : Nat} (d1 : hn hC ≤ D ∧ D < hn hD) (d2 : ∀ a, a < hn hC → sm hC hD a) (d3 : ∀ a, hn hD ≤ a → hK hD a = 0) (ov : okE (hK hD D)) (g : 1 ≤ hc hD ∧ 200 ≤ hs hD) : ∃ hC' e', F_J2_add hD (x + 3) D = some (iI 1, hC') ∧ AW hD hC' (x + 3) (e 2) e' (τ 6) D ∧ (∀ a, a < hn hC → o a ≠ 2 → sm hC hC' a) ∧ sm hC hC' x := by
  have c := r.c
  have hnz := r.hnz
  have hrg := c.rg.c
  have lt : ∀ a, o a ≠ 0 → a < hn hC := fun a ha => Nat.lt_of_not_le fun q => ha (r.ho a q).2
  have ltk : ∀ a, hK hC a ≠ 0 → a < hn hC := fun a ha => Nat.lt_of_not_le fun q => ha (r.ho a q).1
  have hcj := c.a2
  have kej : hK hC (e 2) = 108 ∨ hK hC (e 2) = 120 := by rcases hcj.c with w | w <;> omega
  have lej := ltk (e 2) (by omega)
  have ol0 : o (x + 3) = 2 := c.ox 3 (by omega) (by omega)
  have lx := lt (x + 3) (by omega)
  have a1 : AL hD (x + 3) (e 2) (τ 6) := hcj.fr (d2 _ lx) (d2 _ lej) (by rw [(d2 0 (by omega)).2.2.2.2])
  obtain ⟨hC', e', h1, h2⟩ := add_eq a1 (v := D) (by omega) ov (fun i hi => by
    rw [(d2 _ lej).2.2.2.2, (c.ch i hi).1]
    have hk := (c.ch i hi).2.1
    show decide (okE (hK hD (el 2 i))) = true
    rw [(d2 _ (ltk _ (by rw [hk]; omega))).1, hk]
    decide) g (by omega) (by omega) (by omega) d3
  have w10 := h2.2.2.2.2.2.2.2.2.2.1
  have w12 := h2.2.2.2.2.2.2.2.2.2.2.2.1
  refine ⟨hC', e', h1, h2, fun a ha hoa => ?_, ?_⟩
  · refine (d2 a ha).trans ?_
    by_cases q : a = e 2
    · rcases kej with w | w
      · rw [q, (c.oe 2 (by omega)).1 w] at hoa
        exact absurd rfl hoa
      · rw [q]
        exact w12 (by rw [(d2 _ lej).1]; exact w)
    · exact w10 a (fun w => by rw [w] at hoa; exact hoa ol0) q (by omega)
  · have xr := lt x (by rw [show o x = 2 from c.ox 0 (by omega) (by omega)]; omega)
    have := (c.oe 2 (by omega)).2.2
    exact (d2 x xr).trans (w10 x (by omega) (by omega) (by omega))
theorem RL.call3 {o : Nat → Nat} {hC hD hT : AH} {z m x : Nat} {τ : Nat → Int} {υ : Nat → Int64} {e : Nat → Nat} {el : Nat → Nat → Nat} {lw : Nat} (r : RL o hC hT z m x τ υ e el lw) {D : Nat} (d1 : hn hC ≤ D ∧ D < hn hD) (d2 : ∀ a, a < hn hC → sm hC hD a) (d3 : ∀ a, hn hD ≤ a → hK hD a = 0) (ov : okE (hK hD D)) (g : 1 ≤ hc hD ∧ 200 ≤ hs hD) : ∃ hC' e', F_J2_add hD (x + 4) D = some (iI 1, hC') ∧ AW hD hC' (x + 4) (e 3) e' (τ 4) D ∧ (∀ a, a < hn hC → o a ≠ 2 → sm hC hC' a) ∧ sm hC hC' x := by
  have c := r.c
  have hnz := r.hnz
  have hrg := c.rg.r
  have lt : ∀ a, o a ≠ 0 → a < hn hC := fun a ha => Nat.lt_of_not_le fun q => ha (r.ho a q).2
  have ltk : ∀ a, hK hC a ≠ 0 → a < hn hC := fun a ha => Nat.lt_of_not_le fun q => ha (r.ho a q).1
  have hcj := c.a3
  have kej : hK hC (e 3) = 108 ∨ hK hC (e 3) = 120 := by rcases hcj.c with w | w <;> omega
  have lej := ltk (e 3) (by omega)
  have ol0 : o (x + 4) = 2 := c.ox 4 (by omega) (by omega)
  have lx := lt (x + 4) (by omega)
  have a1 : AL hD (x + 4) (e 3) (τ 4) := hcj.fr (d2 _ lx) (d2 _ lej) (by rw [(d2 0 (by omega)).2.2.2.2])
  obtain ⟨hC', e', h1, h2⟩ := add_eq a1 (v := D) (by omega) ov (fun i hi => by
    rw [(d2 _ lej).2.2.2.2, (c.ri i hi).1]
    have hk := (c.ri i hi).2.1
    show decide (okE (hK hD (el 3 i))) = true
    rw [(d2 _ (ltk _ (by rw [hk]; omega))).1, hk]
    decide) g (by omega) (by omega) (by omega) d3
  have w10 := h2.2.2.2.2.2.2.2.2.2.1
  have w12 := h2.2.2.2.2.2.2.2.2.2.2.2.1
  refine ⟨hC', e', h1, h2, fun a ha hoa => ?_, ?_⟩
  · refine (d2 a ha).trans ?_
    by_cases q : a = e 3
    · rcases kej with w | w
      · rw [q, (c.oe 3 (by omega)).1 w] at hoa
        exact absurd rfl hoa
      · rw [q]
        exact w12 (by rw [(d2 _ lej).1]; exact w)
    · exact w10 a (fun w => by rw [w] at hoa; exact hoa ol0) q (by omega)
  · have xr := lt x (by rw [show o x = 2 from c.ox 0 (by omega) (by omega)]; omega)
    have := (c.oe 3 (by omega)).2.2
    exact (d2 x xr).trans (w10 x (by omega) (by omega) (by omega))
theorem RL.call4 {o : Nat → Nat} {hC hD hT : AH} {z m x : Nat} {τ : Nat → Int} {υ : Nat → Int64} {e : Nat → Nat} {el : Nat → Nat → Nat} {lw : Nat} (r : RL o hC hT z m x τ υ e el lw) {D : Nat} (d1 : hn hC ≤ D ∧ D < hn hD) (d2 : ∀ a, a < hn hC → sm hC hD a) (d3 : ∀ a, hn hD ≤ a → hK hD a = 0) (ov : okE (hK hD D)) (g : 1 ≤ hc hD ∧ 200 ≤ hs hD) : ∃ hC' e', F_J2_add hD (x + 5) D = some (iI 1, hC') ∧ AW hD hC' (x + 5) (e 4) e' (τ 5) D ∧ (∀ a, a < hn hC → o a ≠ 2 → sm hC hC' a) ∧ sm hC hC' x := by
  have c := r.c
  have hnz := r.hnz
  have hrg := c.rg.t
  have lt : ∀ a, o a ≠ 0 → a < hn hC := fun a ha => Nat.lt_of_not_le fun q => ha (r.ho a q).2
  have ltk : ∀ a, hK hC a ≠ 0 → a < hn hC := fun a ha => Nat.lt_of_not_le fun q => ha (r.ho a q).1
  have hcj := c.a4
  have kej : hK hC (e 4) = 108 ∨ hK hC (e 4) = 120 := by rcases hcj.c with w | w <;> omega
  have lej := ltk (e 4) (by omega)
  have ol0 : o (x + 5) = 2 := c.ox 5 (by omega) (by omega)
  have lx := lt (x + 5) (by omega)
  have a1 : AL hD (x + 5) (e 4) (τ 5) := hcj.fr (d2 _ lx) (d2 _ lej) (by rw [(d2 0 (by omega)).2.2.2.2])
  obtain ⟨hC', e', h1, h2⟩ := add_eq a1 (v := D) (by omega) ov (fun i hi => by
    rw [(d2 _ lej).2.2.2.2, (c.to i hi).1]
    have hk := (c.to i hi).2.1
    show decide (okE (hK hD (el 4 i))) = true
    rw [(d2 _ (ltk _ (by rw [hk]; omega))).1, hk]
    decide) g (by omega) (by omega) (by omega) d3
  have w10 := h2.2.2.2.2.2.2.2.2.2.1
  have w12 := h2.2.2.2.2.2.2.2.2.2.2.2.1
  refine ⟨hC', e', h1, h2, fun a ha hoa => ?_, ?_⟩
  · refine (d2 a ha).trans ?_
    by_cases q : a = e 4
    · rcases kej with w | w
      · rw [q, (c.oe 4 (by omega)).1 w] at hoa
        exact absurd rfl hoa
      · rw [q]
        exact w12 (by rw [(d2 _ lej).1]; exact w)
    · exact w10 a (fun w => by rw [w] at hoa; exact hoa ol0) q (by omega)
  · have xr := lt x (by rw [show o x = 2 from c.ox 0 (by omega) (by omega)]; omega)
    have := (c.oe 4 (by omega)).2.2
    exact (d2 x xr).trans (w10 x (by omega) (by omega) (by omega))
