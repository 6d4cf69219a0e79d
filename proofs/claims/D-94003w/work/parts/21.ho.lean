/-! PURE HO: a station more -/
set_option maxRecDepth 100000
theorem RL.add0 {o : Nat → Nat} {hC hD hC' hT hT' : AH} {z m x : Nat} {τ τ' : Nat → Int} {υ : Nat → Int64} {e : Nat → Nat} {el : Nat → Nat → Nat} {lw : Nat} (r : RL o hC hT z m x τ υ e el lw) {n : Nat} {D rl e' : Nat} (hn_ : τ 0 = (n : Int)) (hlim : n < 4) (h5 : τ 5 = 0) (d1 : hn hC ≤ D ∧ D < hn hD) (dl : hn hC ≤ rl ∧ rl < hn hD ∧ rl ≠ D) (d2 : ∀ a, a < hn hC → sm hC hD a) (d3 : ∀ a, hn hD ≤ a → hK hD a = 0) (d4 : ∀ a, hn hC ≤ a → hK hD a ≠ 120) (aw : AW hD hC' (x + 1) (e 0) e' (n : Int) D)
    (hτ : ∀ i, ¬ (i = 0 ∨ i = 8 + n ∨ i = 12 + n ∨ i = 16 + n ∨ i = 20 + n ∨ i = 24 + n ∨ i = 125 + 440 * n) → τ' i = τ i) (tc : τ' 0 = (n : Int) + 1) (sk9 : hK hC' D = 9) (s0 : hI hC' D 0 = iI (τ' (8 + n))) (s1_ : hI hC' D 1 = iI (τ' (16 + n))) (s2 : hI hC' D 2 = iI (τ' (12 + n))) (s3 : hI hC' D 3 = iI (τ' (24 + n))) (s4 : hI hC' D 4 = iI (τ' (20 + n))) (s5 : hJ hC' D 5 = 0) (s6 : hJ hC' D 6 = 0) (s7 : hR hC' D 7 = some rl) (l1 : hK hC' rl = 32) (l2 : hI hC' rl 2 = iI 0) (l3 : hR hC' rl 1 = hR hC 0 0) (tr0 : τ' (125 + 440 * n) = 0) (rg' : RG τ') (T : tf (fun a => a = m + 1) hT hT') (tn' : TN hT' m τ') :
    RL (fun a => if a < hn hC then o a else if a = D then 2 else if a = rl then 6 else if a = e' then 2 else 0) hC' hT' z m x τ' υ (fun i => if i = 0 then e' else e i) (fun i k => if i = 0 ∧ k = n then D else el i k) lw := by
  have c := r.c
  have hn4 := c.rg.n
  have hnz := r.hnz
  obtain ⟨w1, w2, w3, w4, w5, w6, w7, w8, w9, w10, w11, w12, w13, w14, w15⟩ := aw
  have lt : ∀ a, o a ≠ 0 → a < hn hC := fun a ha => Nat.lt_of_not_le fun q => ha (r.ho a q).2
  have ltk : ∀ a, hK hC a ≠ 0 → a < hn hC := fun a ha => Nat.lt_of_not_le fun q => ha (r.ho a q).1
  have hcj := c.a0
  have kej : hK hC (e 0) = 108 ∨ hK hC (e 0) = 120 := by rcases hcj.c with w | w <;> omega
  have lej := ltk (e 0) (by omega)
  have ol0 : o (x + 1) = 2 := c.ox 1 (by omega) (by omega)
  have lx := lt (x + 1) (by omega)
  have kl : hK hC (x + 1) = 32 := hcj.k
  obtain ⟨ε, ep1, ep2, ep3⟩ := r.hε
  have lε := ltk ε (by omega)
  generalize ho : (fun a => if a < hn hC then o a else if a = D then 2 else if a = rl then 6 else if a = e' then 2 else 0) = o'
  have hoo : ∀ a, a < hn hC → o' a = o a := fun a ha => by rw [← ho]; simp only [ha, if_true]
  have oD : o' D = 2 := by rw [← ho]; simp only [show ¬ D < hn hC by omega, if_false, if_true]
  have orl : o' rl = 6 := by rw [← ho]; simp only [show ¬ rl < hn hC by omega, show ¬ rl = D by omega, if_false, if_true]
  have s1 : ∀ a, a < hn hC → ¬ (fun a => a = x + 1 ∨ (a = e 0 ∧ hK hC (e 0) = 108)) a → sm hC hC' a := by
    intro a ha q
    refine (d2 a ha).trans ?_
    by_cases qe : a = e 0
    · have k120 : hK hC (e 0) = 120 := by
        rcases kej with w | w
        · exact absurd (Or.inr ⟨qe, w⟩) q
        · exact w
      rw [qe]
      exact w12 (by rw [(d2 _ lej).1]; exact k120)
    · exact w10 a (fun w => q (Or.inl w)) qe (by omega)
  have hM : ∀ a, (fun a => a = x + 1 ∨ (a = e 0 ∧ hK hC (e 0) = 108)) a → o a = 2 ∧ ¬ imK (hK hC a) ∧ hK hC a ≠ 120 := by
    intro a q
    have q : a = x + 1 ∨ (a = e 0 ∧ hK hC (e 0) = 108) := q
    rcases q with q | ⟨q, q2⟩
    · rw [q, kl]
      exact ⟨ol0, by unfold imK; omega, by omega⟩
    · rw [q, q2]
      exact ⟨(c.oe 0 (by omega)).1 q2, by unfold imK; omega, by omega⟩
  have fs := RL.keep r (o' := o') (fun a => a = x + 1 ∨ (a = e 0 ∧ hK hC (e 0) = 108)) hM s1 hoo
  have hυ : ∀ i : Nat, i < 9 → υ i = υ i := fun _ _ => rfl
  have nE : ∀ i, i < 5 → i ≠ 0 → hK hC (e i) = 108 → ¬ (e i = x + 1 ∨ (e i = e 0 ∧ hK hC (e 0) = 108)) := fun i hi ne q w => by
    have := (c.oe i hi).2.2
    rcases w with w | ⟨w, w2⟩
    · omega
    · exact ne (c.ne i 0 hi (by omega) q w)
  have xe := (c.oe 0 (by omega)).2.2
  obtain ⟨fim, f6, f7, h00, f2, o2⟩ := fs
  have sx0 : sm hC hC' x := f2 x (c.ox 0 (by omega) (by omega)) (by omega)
  have sx2 : sm hC hC' (x + 2) := f2 _ (c.ox 2 (by omega) (by omega)) (by omega)
  have sx3 : sm hC hC' (x + 3) := f2 _ (c.ox 3 (by omega) (by omega)) (by omega)
  have sx4 : sm hC hC' (x + 4) := f2 _ (c.ox 4 (by omega) (by omega)) (by omega)
  have sx5 : sm hC hC' (x + 5) := f2 _ (c.ox 5 (by omega) (by omega)) (by omega)
  have sx7 : sm hC hC' (x + 7) := f2 _ (c.ox 7 (by omega) (by omega)) (by omega)
  have sx264 : sm hC hC' (x + 264) := f2 _ (c.ox 264 (by omega) (by omega)) (by omega)
  have sx265 : sm hC hC' (x + 265) := f2 _ (c.ox 265 (by omega) (by omega)) (by omega)
  have sk : ∀ k, k < 256 → sm hC hC' (x + 8 + k) := fun k hk => by
    have := f2 (x + (8 + k)) (c.ox (8 + k) (by omega) (by omega)) (by omega)
    rw [show x + (8 + k) = x + 8 + k by omega] at this
    exact this
  have sw : ∀ k, k < 2 → sm hC hC' (x + 266 + k) := fun k hk => by
    have := f2 (x + (266 + k)) (c.ox (266 + k) (by omega) (by omega)) (by omega)
    rw [show x + (266 + k) = x + 266 + k by omega] at this
    exact this
  have sl : sm hC hC' lw := fim lw (by rw [c.kL]; unfold imK; omega)
  have e1s : sm hC hC' (e 1) := by
    rcases c.a1.c with q | q
    · exact f2 _ ((c.oe 1 (by omega)).1 q.1) (nE 1 (by omega) (by omega) q.1)
    · exact (f7 _ q.2.1).1
  have e2s : sm hC hC' (e 2) := by
    rcases c.a2.c with q | q
    · exact f2 _ ((c.oe 2 (by omega)).1 q.1) (nE 2 (by omega) (by omega) q.1)
    · exact (f7 _ q.2.1).1
  have e3s : sm hC hC' (e 3) := by
    rcases c.a3.c with q | q
    · exact f2 _ ((c.oe 3 (by omega)).1 q.1) (nE 3 (by omega) (by omega) q.1)
    · exact (f7 _ q.2.1).1
  have e4s : sm hC hC' (e 4) := by
    rcases c.a4.c with q | q
    · exact f2 _ ((c.oe 4 (by omega)).1 q.1) (nE 4 (by omega) (by omega) q.1)
    · exact (f7 _ q.2.1).1
  have sst : ∀ i : Nat, (i : Int) < τ 0 → sm hC hC' (el 0 i) := fun i hi => f2 _ (c.os i hi).1 (fun w => by
    have h1 := (c.os i hi).2
    have h2 := (c.st i hi).2.k
    rcases w with w | ⟨w, w2⟩
    · omega
    · rw [w] at h2; omega)
  have es : ∀ i, i < 5 → i ≠ 0 → sm hC hC' (e i) := by
    intro i hi ne
    rcases (show i = 1 ∨ i = 2 ∨ i = 3 ∨ i = 4 by omega) with rfl | rfl | rfl | rfl
    · exact e1s
    · exact e2s
    · exact e3s
    · exact e4s
  have ol : ∀ k : Nat, k < n → hR hC' e' k = hR hC (e 0) k := fun k hk => by rw [w2 k (by omega), (d2 _ lej).2.2.2.2]
  have nl : hR hC' e' n = some D := by rw [← Int.toNat_natCast n]; exact w3
  have ec : e' = e 0 ∨ hn hC ≤ e' := by rcases w5 with w | w <;> omega
  have oe' : o' e' = 2 := by
    rcases w5 with w | w
    · have k108 : hK hC (e 0) = 108 := by
        have := w4
        rw [w, w11 _ (by omega), (d2 _ lej).1] at this
        exact this
      rw [w, hoo _ lej]
      exact (c.oe 0 (by omega)).1 k108
    · rw [← ho]
      simp only [show ¬ e' < hn hC by omega, show ¬ e' = D by omega, show ¬ e' = rl by omega, if_false, if_true]
  have xr : x + 267 < hn hC := lt _ (by rw [c.ox 267 (by omega) (by omega)]; omega)
  have sε : sm hC hC' ε := (f7 ε ep2).1
  have uz := c.zz n (by omega) hlim
  have c' : CrP o' 2 hC' x τ' υ (fun i => if i = 0 then e' else e i) (fun i k => if i = 0 ∧ k = n then D else el i k) lw := ⟨by rw [sx0.1]; exact c.k,
    by rw [sx0.2.2.2.2]; exact c.r0,
    by rw [sx0.2.2.2.2]; exact c.r1,
    by rw [sx0.2.2.2.2]; exact c.r2,
    by rw [sx0.2.2.2.2]; exact c.r3,
    by rw [sx0.2.2.2.2]; exact c.r4,
    by rw [sx0.2.2.2.2]; exact c.r5,
    by rw [sx0.2.2.2.2]; exact c.r6,
    by rw [sx0.2.2.2.2]; exact c.r7,
    by rw [sx0.2.2.2.2]; exact c.r8,
    by rw [sx0.2.2.1, hτ 2 (by omega)]; exact c.i9,
    by rw [sx0.2.2.1, hτ 3 (by omega)]; exact c.i10,
    by rw [sx0.2.2.2.1, hυ 8 (by omega)]; exact c.j11,
    by rw [sx7.1]; exact c.kb,
    by rw [sx7.2.1]; exact c.lb,
    fun k hk => ⟨by rw [sx7.2.2.2.2]; exact (c.b k hk).1, by rw [(sk k hk).1]; exact (c.b k hk).2.1, by rw [(sk k hk).2.1]; exact (c.b k hk).2.2.1, fun s hs => by rw [(sk k hk).2.2.1, hτ _ (by omega)]; exact (c.b k hk).2.2.2 s hs⟩,
    by rw [sx264.1]; exact c.kl,
    by rw [sx264.2.1]; exact c.ll,
    fun i hi => by rw [sx264.2.2.1, hτ _ (by omega)]; exact c.l i hi,
    by rw [sx265.1]; exact c.kw,
    by rw [sx265.2.1]; exact c.lw_,
    fun s hs => ⟨by rw [sx265.2.2.2.2]; exact (c.w s hs).1, by rw [(sw s hs).1]; exact (c.w s hs).2.1, by rw [(sw s hs).2.1]; exact (c.w s hs).2.2.1, fun l hl => by rw [(sw s hs).2.2.1, hτ _ (by omega)]; exact (c.w s hs).2.2.2 l hl⟩,
    by rw [sl.1]; exact c.kL,
    by rw [sl.2.2.1, hτ 120 (by omega)]; exact c.L0,
    by rw [sl.2.2.1, hτ 121 (by omega)]; exact c.L1,
    by rw [sl.2.2.1, hτ 122 (by omega)]; exact c.L2,
    by rw [sl.2.2.1, hτ 123 (by omega)]; exact c.L3,
    by rw [sl.2.2.1, hτ 124 (by omega)]; exact c.L4,
    by rw [tc]; exact w1,
    by rw [hτ 1 (by omega)]; exact c.a1.fr sx2 e1s h00,
    by rw [hτ 6 (by omega)]; exact c.a2.fr sx3 e2s h00,
    by rw [hτ 4 (by omega)]; exact c.a3.fr sx4 e3s h00,
    by rw [hτ 5 (by omega)]; exact c.a4.fr sx5 e4s h00,
    fun k hk => by
          rw [tc] at hk
          by_cases q : k = n
          · subst q
            simp only [if_true, and_self]
            have b0 : (fun i => τ' (125 + 440 * k + i)) 0 = 0 := by show τ' (125 + 440 * k + 0) = 0; rw [Nat.add_zero]; exact tr0
            refine ⟨nl, sk9, s0, s1_, s2, s3, s4, by rw [s5]; exact uz.1.symm, by rw [s6]; exact uz.2.symm, rl, s7, ε, fun _ => 0, fun _ => 1, ⟨l1, by rw [l2, b0], by rw [l3]; exact ep1, by rw [b0]; omega, Or.inr ⟨b0, by rw [sε.1]; exact ep2, by rw [sε.2.1]; exact ep3, by rw [h00]; exact ep1⟩⟩, by rw [b0]; omega, orl, fun q => by rw [sε.1, ep2] at q; omega, rfl, fun r hr => (show 1 ≤ 440 by omega), fun r hr => ?_⟩
            have hr : (r : Int) < τ' (125 + 440 * k + 0) := hr
            rw [Nat.add_zero, tr0] at hr
            omega
          · have hk : (k : Int) < τ 0 := by omega
            simp only [if_true, q, and_false, if_false]
            exact ⟨by rw [ol k (by omega)]; exact (c.st k hk).1, ((c.st k hk).2.fr fim f6 (fun a q => (f7 a q).1) h00 (sst k hk)).cg (hτ _ (by omega)) (hτ _ (by omega)) (hτ _ (by omega)) (hτ _ (by omega)) (hτ _ (by omega)) rfl rfl (fun j hj => hτ _ (by omega))⟩,
    (show ∀ k : Nat, (k : Int) < τ' 1 → hR hC' (e 1) k = some (el 1 k) ∧ hK hC' (el 1 k) = 10 ∧ hI hC' (el 1 k) 0 = iI (τ' (28 + 4 * k)) ∧ hI hC' (el 1 k) 1 = iI (τ' (29 + 4 * k)) ∧ hI hC' (el 1 k) 2 = iI (τ' (30 + 4 * k)) ∧ hI hC' (el 1 k) 3 = iI (τ' (31 + 4 * k)) from fun k hk => by
          rw [hτ 1 (by omega)] at hk
          have hk6 := c.rg.d
          obtain ⟨k1, k2, k3, k4, k5, k6⟩ := c.dr k hk
          have sk := fim (el 1 k) (by rw [k2]; unfold imK; omega)
          exact ⟨by rw [e1s.2.2.2.2]; exact k1, by rw [sk.1]; exact k2, by rw [sk.2.2.1, hτ _ (by omega)]; exact k3, by rw [sk.2.2.1, hτ _ (by omega)]; exact k4, by rw [sk.2.2.1, hτ _ (by omega)]; exact k5, by rw [sk.2.2.1, hτ _ (by omega)]; exact k6⟩),
    (show ∀ k : Nat, (k : Int) < τ' 6 → hR hC' (e 2) k = some (el 2 k) ∧ hK hC' (el 2 k) = 11 ∧ hI hC' (el 2 k) 0 = iI (τ' (3149 + 3 * k)) ∧ hI hC' (el 2 k) 1 = iI (τ' (3150 + 3 * k)) ∧ hI hC' (el 2 k) 2 = iI (τ' (3151 + 3 * k)) from fun k hk => by
          rw [hτ 6 (by omega)] at hk
          have hk6 := c.rg.c
          obtain ⟨k1, k2, k3, k4, k5⟩ := c.ch k hk
          have sk := fim (el 2 k) (by rw [k2]; unfold imK; omega)
          exact ⟨by rw [e2s.2.2.2.2]; exact k1, by rw [sk.1]; exact k2, by rw [sk.2.2.1, hτ _ (by omega)]; exact k3, by rw [sk.2.2.1, hτ _ (by omega)]; exact k4, by rw [sk.2.2.1, hτ _ (by omega)]; exact k5⟩),
    (show ∀ k : Nat, (k : Int) < τ' 4 → hR hC' (e 3) k = some (el 3 k) ∧ hK hC' (el 3 k) = 100 ∧ o' (el 3 k) = 6 ∧ 0 ≤ τ' (60 + 3 * k) ∧ hL hC' (el 3 k) = (if τ' (61 + 3 * k) = -1 then 1 else if τ' (62 + 3 * k) = -1 then 2 else 3) ∧ (τ' (61 + 3 * k) = -1 → τ' (62 + 3 * k) = -1) ∧ ∀ j : Nat, j < hL hC' (el 3 k) → hI hC' (el 3 k) j = iI (τ' (60 + 3 * k + j)) from fun k hk => by
          rw [hτ 4 (by omega)] at hk
          have hk6 := c.rg.r
          obtain ⟨k1, k2, k3, k4, k5, k6, k7⟩ := c.ri k hk
          have sk := f6 _ k3
          refine ⟨by rw [e3s.2.2.2.2]; exact k1, by rw [sk.1.1]; exact k2, sk.2, by rw [hτ _ (by omega)]; exact k4, by rw [sk.1.2.1, hτ (61 + 3 * k) (by omega), hτ (62 + 3 * k) (by omega)]; exact k5, by rw [hτ (61 + 3 * k) (by omega), hτ (62 + 3 * k) (by omega)]; exact k6, fun j hj => ?_⟩
          rw [sk.1.2.1] at hj
          have hj3 : j < 3 := by rw [k5] at hj; split at hj <;> (try split at hj) <;> omega
          rw [sk.1.2.2.1, hτ _ (by omega)]
          exact k7 j hj),
    (show ∀ k : Nat, (k : Int) < τ' 5 → hR hC' (e 4) k = some (el 4 k) ∧ hK hC' (el 4 k) = 100 ∧ o' (el 4 k) = 6 ∧ hL hC' (el 4 k) = 4 ∧ ∀ s : Nat, (s : Int) < τ' 0 → hI hC' (el 4 k) s = iI (τ' (2909 + 4 * k + s)) from fun k hk => by
          rw [hτ 5 (by omega)] at hk
          omega),
    rg',
    fun i h1 h2 => o2 _ (c.ox i h1 h2),
    fun i hi => by
          by_cases q : i = 0
          · subst q
            simp only [if_true]
            exact ⟨fun _ => oe', fun w => by omega, by omega⟩
          · simp only [q, if_false]
            have ej := es i hi q
            rw [ej.1]
            exact ⟨fun w => o2 _ ((c.oe i hi).1 w), fun w => (f7 _ w).2 ((c.oe i hi).2.1 w), (c.oe i hi).2.2⟩,
    fun i k hi hk q1 q2 => by
          by_cases u : i = 0
          · by_cases w : k = 0
            · omega
            · subst u
              simp only [if_true, w, if_false] at q1 q2
              have kk : hK hC (e k) = 108 ∨ hK hC (e k) = 120 := by
                rcases (show k = 1 ∨ k = 2 ∨ k = 3 ∨ k = 4 by omega) with rfl | rfl | rfl | rfl
                · rcases c.a1.c with v | v <;> omega
                · rcases c.a2.c with v | v <;> omega
                · rcases c.a3.c with v | v <;> omega
                · rcases c.a4.c with v | v <;> omega
              have lk := ltk (e k) (by omega)
              rw [q2, (es k hk w).1] at q1
              rcases ec with v | v
              · exact (w (c.ne k 0 hk (by omega) q1 (q2.symm.trans v))).elim
              · omega
          · by_cases w : k = 0
            · subst w
              simp only [if_true, u, if_false] at q1 q2
              have lk := ltk (e i) (by
                rw [(es i hi u).1] at q1
                omega)
              rw [(es i hi u).1] at q1
              rcases ec with v | v
              · exact (u (c.ne i 0 hi (by omega) q1 (q2.trans v))).elim
              · omega
            · simp only [u, w, if_false] at q1 q2
              rw [(es i hi u).1] at q1
              exact c.ne i k hi hk q1 q2,
    fun i hi => by
          rw [tc] at hi
          by_cases q : i = n
          · subst q
            simp only [if_true, and_self]
            exact ⟨oD, by omega⟩
          · simp only [q, and_false, if_false]
            have := c.os i (by omega)
            exact ⟨o2 _ this.1, this.2⟩,
    fun i j hi hj q => by
          rw [tc] at hi hj
          by_cases u : i = n
          · by_cases w : j = n
            · omega
            · subst u
              simp only [if_true, and_self, w, and_false, if_false] at q
              have := lt (el 0 j) (by rw [(c.os j (by omega)).1]; omega)
              omega
          · by_cases w : j = n
            · subst w
              simp only [if_true, and_self, u, and_false, if_false] at q
              have := lt (el 0 i) (by rw [(c.os i (by omega)).1]; omega)
              omega
            · simp only [u, w, and_false, if_false] at q
              exact c.ns i j (by omega) (by omega) q,
    fun s h1 h2 => by rw [tc] at h1; exact c.zz s (by omega) h2⟩
  refine r.upd (fun a => a = x + 1 ∨ (a = e 0 ∧ hK hC (e 0) = 108)) hM s1 (fun a ha => by rw [w11 a (by omega), (d2 a ha).1]) (by omega) (fun a ha => ⟨by rw [w13 a ha]; exact d3 a (by omega), ?_⟩) (fun a ha => ?_) hoo c' tn' (fun i => by rw [T.J (by omega)]; exact r.tj i) (T.I (by omega)) (T.J (by omega)) (T.I (by omega)) (T.I (by omega)) (T.I (by omega)) (T.I (by omega)) (T.J (by omega)) (by rw [T.I (by omega)]) (by rw [T.I (by omega)]) (by rw [T.I (by omega)]) (by rw [T.J (by omega)]) (by rw [T.J (by omega)])
  · have ne' : a ≠ e' := by
      rcases w5 with w | w
      · omega
      · rcases w14 with v | v
        · have := w15 v
          omega
        · intro q
          rw [q, w, ] at ha
          have h1 := w13 a (by omega)
          rw [q, w] at h1
          rw [h1, d3 _ (Nat.le_refl _)] at v
          omega
    rw [← ho]
    simp only [show ¬ a < hn hC by omega, show ¬ a = D by omega, show ¬ a = rl by omega, ne', if_false]
  · by_cases q : a < hn hD
    · rw [w11 a q]
      exact d4 a ha
    · by_cases u : hn hC' ≤ a
      · rw [w13 a u, d3 a (by omega)]
        omega
      · have : a = hn hD := by omega
        rw [this]
        rcases w14 with v | v
        · omega
        · rw [v]; omega
