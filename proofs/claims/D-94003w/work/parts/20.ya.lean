/-! PURE YA: an hour's changes of one station -/
set_option maxRecDepth 100000
theorem RL.hset {o : Nat → Nat} {hC hC' hT hT' : AH} {z m x : Nat} {τ τ' : Nat → Int} {υ : Nat → Int64} {e : Nat → Nat} {el : Nat → Nat → Nat} {lw : Nat} (r : RL o hC hT z m x τ υ e el lw) {s k : Nat} {v w : Int} (hs : (s : Int) < τ 0) (hk : k < 256) (hv : 0 ≤ v ∧ v ≤ 99) (hw : -1 ≤ w ∧ w < τ 2 + 1 ∧ w < 3000)
    (hτ : ∀ i, i ≠ 12 + s ∧ i ≠ 24 + s ∧ i ≠ 1885 + 4 * k + s → τ' i = τ i) (t1 : τ' (12 + s) = v) (t2 : τ' (24 + s) = w) (t3 : τ' (1885 + 4 * k + s) = v)
    (kn : hn hC' = hn hC) (kk : hK hC' = hK hC) (kL : hL hC' = hL hC) (kR : hR hC' = hR hC) (s0 : ∀ a, a ≠ el 0 s → a ≠ x + 8 + k → sm hC hC' a) (v2 : hI hC' (el 0 s) 2 = iI v) (v3 : hI hC' (el 0 s) 3 = iI w) (vo : ∀ j, j ≠ 2 → j ≠ 3 → hI hC' (el 0 s) j = hI hC (el 0 s) j) (jS : hJ hC' (el 0 s) = hJ hC (el 0 s)) (b1 : hI hC' (x + 8 + k) s = iI v) (b2 : ∀ j, j ≠ s → hI hC' (x + 8 + k) j = hI hC (x + 8 + k) j)
    (T : tf (fun a => a = m + 1) hT hT') (tn' : TN hT' m τ') : RL o hC' hT' z m x τ' υ e el lw := by
  have c := r.c
  have hn4 := c.rg.n
  have hh3 := c.rg.h
  have st := (c.st s hs).2
  generalize hS : el 0 s = S at st s0 v2 v3 vo jS
  have oS : o S = 2 := by rw [← hS]; exact (c.os s hs).1
  have xS : S < x ∨ x + 267 < S := by rw [← hS]; exact (c.os s hs).2
  have kS := st.k
  have ob : o (x + 8 + k) = 2 := by
    have := c.ox (8 + k) (by omega) (by omega)
    rw [show x + (8 + k) = x + 8 + k by omega] at this
    exact this
  have kb := (c.b k hk).2.1
  have s1 : ∀ a, a < hn hC → ¬ (fun a => a = S ∨ a = x + 8 + k) a → sm hC hC' a := fun a _ q => s0 a (fun w => q (Or.inl w)) (fun w => q (Or.inr w))
  have hM : ∀ a, (fun a => a = S ∨ a = x + 8 + k) a → o a = 2 ∧ ¬ imK (hK hC a) ∧ hK hC a ≠ 120 := fun a q => by
    have q : a = S ∨ a = x + 8 + k := q
    rcases q with q | q
    · rw [q, kS]
      exact ⟨oS, by unfold imK; omega, by omega⟩
    · rw [q, kb]
      exact ⟨ob, by unfold imK; omega, by omega⟩
  have fs := RL.keep r (o' := o) (fun a => a = S ∨ a = x + 8 + k) hM s1 (fun _ _ => rfl)
  have hυ : ∀ i : Nat, i < 9 → υ i = υ i := fun _ _ => rfl
  have nE : ∀ j, j < 5 → hK hC (e j) = 108 → ¬ (e j = S ∨ e j = x + 8 + k) := fun j hj q w => by
    have := (c.oe j hj).2.2
    rcases w with w | w
    · rw [w, kS] at q; omega
    · omega
  obtain ⟨fim, f6, f7, h00, f2, o2⟩ := fs
  have sx0 : sm hC hC' x := f2 x (c.ox 0 (by omega) (by omega)) (by omega)
  have sx1 : sm hC hC' (x + 1) := f2 _ (c.ox 1 (by omega) (by omega)) (by omega)
  have sx2 : sm hC hC' (x + 2) := f2 _ (c.ox 2 (by omega) (by omega)) (by omega)
  have sx3 : sm hC hC' (x + 3) := f2 _ (c.ox 3 (by omega) (by omega)) (by omega)
  have sx4 : sm hC hC' (x + 4) := f2 _ (c.ox 4 (by omega) (by omega)) (by omega)
  have sx5 : sm hC hC' (x + 5) := f2 _ (c.ox 5 (by omega) (by omega)) (by omega)
  have sx7 : sm hC hC' (x + 7) := f2 _ (c.ox 7 (by omega) (by omega)) (by omega)
  have sx264 : sm hC hC' (x + 264) := f2 _ (c.ox 264 (by omega) (by omega)) (by omega)
  have sx265 : sm hC hC' (x + 265) := f2 _ (c.ox 265 (by omega) (by omega)) (by omega)
  have sw : ∀ k, k < 2 → sm hC hC' (x + 266 + k) := fun k hk => by
    have := f2 (x + (266 + k)) (c.ox (266 + k) (by omega) (by omega)) (by omega)
    rw [show x + (266 + k) = x + 266 + k by omega] at this
    exact this
  have sl : sm hC hC' lw := fim lw (by rw [c.kL]; unfold imK; omega)
  have e0s : sm hC hC' (e 0) := by
    rcases c.a0.c with q | q
    · exact f2 _ ((c.oe 0 (by omega)).1 q.1) (nE 0 (by omega) q.1)
    · exact (f7 _ q.2.1).1
  have e1s : sm hC hC' (e 1) := by
    rcases c.a1.c with q | q
    · exact f2 _ ((c.oe 1 (by omega)).1 q.1) (nE 1 (by omega) q.1)
    · exact (f7 _ q.2.1).1
  have e2s : sm hC hC' (e 2) := by
    rcases c.a2.c with q | q
    · exact f2 _ ((c.oe 2 (by omega)).1 q.1) (nE 2 (by omega) q.1)
    · exact (f7 _ q.2.1).1
  have e3s : sm hC hC' (e 3) := by
    rcases c.a3.c with q | q
    · exact f2 _ ((c.oe 3 (by omega)).1 q.1) (nE 3 (by omega) q.1)
    · exact (f7 _ q.2.1).1
  have e4s : sm hC hC' (e 4) := by
    rcases c.a4.c with q | q
    · exact f2 _ ((c.oe 4 (by omega)).1 q.1) (nE 4 (by omega) q.1)
    · exact (f7 _ q.2.1).1
  have es : ∀ j, j < 5 → sm hC hC' (e j) := by
    intro j hj
    rcases (show j = 0 ∨ j = 1 ∨ j = 2 ∨ j = 3 ∨ j = 4 by omega) with rfl | rfl | rfl | rfl | rfl
    · exact e0s
    · exact e1s
    · exact e2s
    · exact e3s
    · exact e4s
  have sk : ∀ k', k' < 256 → k' ≠ k → sm hC hC' (x + 8 + k') := fun k' hk' ne => by
    have := f2 (x + (8 + k')) (c.ox (8 + k') (by omega) (by omega)) (by omega)
    rw [show x + (8 + k') = x + 8 + k' by omega] at this
    exact this
  have rg' : RG τ' := ⟨by rw [hτ 0 (by omega)]; exact c.rg.n,
    by rw [hτ 1 (by omega)]; exact c.rg.d,
    by rw [hτ 2 (by omega)]; exact c.rg.h,
    by rw [hτ 3 (by omega)]; exact c.rg.l,
    by rw [hτ 4 (by omega)]; exact c.rg.r,
    by rw [hτ 5 (by omega)]; exact c.rg.t,
    by rw [hτ 6 (by omega)]; exact c.rg.c,
    fun i hi => by rw [hτ _ (by omega)]; exact c.rg.cost i hi,
    fun i hi => by
          by_cases q : i = s
          · subst q; rw [t1]; exact hv
          · rw [hτ _ (by omega)]; exact c.rg.price i hi,
    fun i hi => by rw [hτ _ (by omega)]; exact c.rg.late i hi,
    fun i hi => by rw [hτ _ (by omega)]; exact c.rg.first i hi,
    fun i hi => by
          rw [hτ 0 (by omega)] at hi
          rw [hτ 2 (by omega)]
          by_cases q : i = s
          · subst q; rw [t2]; exact hw
          · rw [hτ _ (by omega)]; exact c.rg.chg i hi,
    fun k hk => by rw [hτ 1 (by omega)] at hk; have := c.rg.d; rw [hτ (28 + 4 * k) (by omega), hτ (29 + 4 * k) (by omega), hτ (30 + 4 * k) (by omega), hτ (31 + 4 * k) (by omega), hτ 0 (by omega)]; exact c.rg.drv k hk,
    fun i hi => by rw [hτ _ (by omega)]; exact c.rg.lev i hi,
    fun i hi => by rw [hτ 4 (by omega)] at hi; have := c.rg.r; rw [hτ _ (by omega)]; exact c.rg.rise i hi,
    fun i hi => by rw [hτ _ (by omega)]; exact c.rg.wgt i hi,
    by rw [hτ 120 (by omega)]; exact c.rg.once,
    by rw [hτ 121 (by omega)]; exact c.rg.at,
    by rw [hτ 122 (by omega)]; exact c.rg.cap,
    by rw [hτ 123 (by omega)]; exact c.rg.told,
    by rw [hτ 124 (by omega)]; exact c.rg.byc,
    fun i hi => by
          by_cases q : i = 4 * k + s
          · subst q; rw [show 1885 + (4 * k + s) = 1885 + 4 * k + s by omega, t3]; exact hv
          · rw [hτ _ (by omega)]; exact c.rg.brd i hi,
    fun i hi => by rw [hτ _ (by omega)]; exact c.rg.row i hi,
    fun k hk => by rw [hτ 6 (by omega)] at hk; have := c.rg.c; rw [hτ (3149 + 3 * k) (by omega), hτ (3150 + 3 * k) (by omega), hτ (3151 + 3 * k) (by omega)]; exact c.rg.chn k hk,
    tn'.g⟩
  have c' : CrP o 2 hC' x τ' υ e el lw := ⟨by rw [sx0.1]; exact c.k,
    by rw [sx0.2.2.2.2]; exact c.r0,
    by rw [sx0.2.2.2.2]; exact c.r1,
    by rw [sx0.2.2.2.2]; exact c.r2,
    by rw [sx0.2.2.2.2]; exact c.r3,
    by rw [sx0.2.2.2.2]; exact c.r4,
    by rw [sx0.2.2.2.2]; exact c.r5,
    by rw [sx0.2.2.2.2]; exact c.r6,
    by rw [sx0.2.2.2.2]; exact c.r7,
    by rw [sx0.2.2.2.2]; exact c.r8,
    by rw [sx0.2.2.1, hτ 2 (by omega)]; exact c.i9,
    by rw [sx0.2.2.1, hτ 3 (by omega)]; exact c.i10,
    by rw [sx0.2.2.2.1, hυ 8 (by omega)]; exact c.j11,
    by rw [sx7.1]; exact c.kb,
    by rw [sx7.2.1]; exact c.lb,
    fun k' hk' => by
          obtain ⟨g1, g2, g3, g4⟩ := c.b k' hk'
          refine ⟨by rw [kR]; exact g1, by rw [kk]; exact g2, by rw [kL]; exact g3, fun s' hs' => ?_⟩
          by_cases q : k' = k
          · subst q
            by_cases q2 : s' = s
            · subst q2; rw [b1, t3]
            · rw [b2 s' q2, hτ _ (by omega)]; exact g4 s' hs'
          · rw [(sk k' hk' q).2.2.1, hτ _ (by omega)]; exact g4 s' hs',
    by rw [sx264.1]; exact c.kl,
    by rw [sx264.2.1]; exact c.ll,
    fun i hi => by rw [sx264.2.2.1, hτ _ (by omega)]; exact c.l i hi,
    by rw [sx265.1]; exact c.kw,
    by rw [sx265.2.1]; exact c.lw_,
    fun s hs => ⟨by rw [sx265.2.2.2.2]; exact (c.w s hs).1, by rw [(sw s hs).1]; exact (c.w s hs).2.1, by rw [(sw s hs).2.1]; exact (c.w s hs).2.2.1, fun l hl => by rw [(sw s hs).2.2.1, hτ _ (by omega)]; exact (c.w s hs).2.2.2 l hl⟩,
    by rw [sl.1]; exact c.kL,
    by rw [sl.2.2.1, hτ 120 (by omega)]; exact c.L0,
    by rw [sl.2.2.1, hτ 121 (by omega)]; exact c.L1,
    by rw [sl.2.2.1, hτ 122 (by omega)]; exact c.L2,
    by rw [sl.2.2.1, hτ 123 (by omega)]; exact c.L3,
    by rw [sl.2.2.1, hτ 124 (by omega)]; exact c.L4,
    by rw [hτ 0 (by omega)]; exact c.a0.fr sx1 e0s h00,
    by rw [hτ 1 (by omega)]; exact c.a1.fr sx2 e1s h00,
    by rw [hτ 6 (by omega)]; exact c.a2.fr sx3 e2s h00,
    by rw [hτ 4 (by omega)]; exact c.a3.fr sx4 e3s h00,
    by rw [hτ 5 (by omega)]; exact c.a4.fr sx5 e4s h00,
    fun i hi => by
          rw [hτ 0 (by omega)] at hi
          refine ⟨by rw [e0s.2.2.2.2]; exact (c.st i hi).1, ?_⟩
          by_cases q : i = s
          · subst q
            rw [hS]
            obtain ⟨rl, r1, r2⟩ := st.r
            exact ⟨by rw [kk]; exact kS, by rw [vo 0 (by omega) (by omega), hτ _ (by omega)]; exact st.i0, by rw [vo 1 (by omega) (by omega), hτ _ (by omega)]; exact st.i1, by rw [v2, t1], by rw [v3, t2], by rw [vo 4 (by omega) (by omega), hτ _ (by omega)]; exact st.i4, by rw [jS]; exact st.j5, by rw [jS]; exact st.j6, rl, by rw [kR]; exact r1, (r2.fr fim f6 (fun a q => (f7 a q).1) h00).cg (fun j hj => hτ _ (by omega))⟩
          · have sE : sm hC hC' (el 0 i) := f2 _ (c.os i hi).1 (fun w => by
              rcases w with w | w
              · exact q (c.ns i s hi hs (w.trans hS.symm))
              · have := (c.os i hi).2; omega)
            exact ((c.st i hi).2.fr fim f6 (fun a q => (f7 a q).1) h00 sE).cg (hτ _ (by omega)) (hτ _ (by omega)) (hτ _ (by omega)) (hτ _ (by omega)) (hτ _ (by omega)) rfl rfl (fun j hj => hτ _ (by omega)),
    fun k hk => by
    rw [hτ 1 (by omega)] at hk
    have hk6 := c.rg.d
    obtain ⟨k1, k2, k3, k4, k5, k6⟩ := c.dr k hk
    have sk := fim (el 1 k) (by rw [k2]; unfold imK; omega)
    exact ⟨by rw [e1s.2.2.2.2]; exact k1, by rw [sk.1]; exact k2, by rw [sk.2.2.1, hτ _ (by omega)]; exact k3, by rw [sk.2.2.1, hτ _ (by omega)]; exact k4, by rw [sk.2.2.1, hτ _ (by omega)]; exact k5, by rw [sk.2.2.1, hτ _ (by omega)]; exact k6⟩,
    fun k hk => by
    rw [hτ 6 (by omega)] at hk
    have hk6 := c.rg.c
    obtain ⟨k1, k2, k3, k4, k5⟩ := c.ch k hk
    have sk := fim (el 2 k) (by rw [k2]; unfold imK; omega)
    exact ⟨by rw [e2s.2.2.2.2]; exact k1, by rw [sk.1]; exact k2, by rw [sk.2.2.1, hτ _ (by omega)]; exact k3, by rw [sk.2.2.1, hτ _ (by omega)]; exact k4, by rw [sk.2.2.1, hτ _ (by omega)]; exact k5⟩,
    fun k hk => by
    rw [hτ 4 (by omega)] at hk
    have hk6 := c.rg.r
    obtain ⟨k1, k2, k3, k4, k5, k6, k7⟩ := c.ri k hk
    have sk := f6 _ k3
    refine ⟨by rw [e3s.2.2.2.2]; exact k1, by rw [sk.1.1]; exact k2, sk.2, by rw [hτ _ (by omega)]; exact k4, by rw [sk.1.2.1, hτ (61 + 3 * k) (by omega), hτ (62 + 3 * k) (by omega)]; exact k5, by rw [hτ (61 + 3 * k) (by omega), hτ (62 + 3 * k) (by omega)]; exact k6, fun j hj => ?_⟩
    rw [sk.1.2.1] at hj
    have hj3 : j < 3 := by rw [k5] at hj; split at hj <;> (try split at hj) <;> omega
    rw [sk.1.2.2.1, hτ _ (by omega)]
    exact k7 j hj,
    fun k hk => by
    rw [hτ 5 (by omega)] at hk
    have hk6 := c.rg.t
    have hk7 := c.rg.n
    obtain ⟨k1, k2, k3, k4, k5⟩ := c.to k hk
    have sk := f6 _ k3
    exact ⟨by rw [e4s.2.2.2.2]; exact k1, by rw [sk.1.1]; exact k2, sk.2, by rw [sk.1.2.1]; exact k4, fun s hs => by rw [hτ 0 (by omega)] at hs; rw [sk.1.2.2.1, hτ _ (by omega)]; exact k5 s hs⟩,
    rg',
    fun i h1 h2 => o2 _ (c.ox i h1 h2),
    fun j hj => by
    have ej := es j hj
    rw [ej.1]
    exact ⟨fun q => o2 _ ((c.oe j hj).1 q), fun q => (f7 _ q).2 ((c.oe j hj).2.1 q), (c.oe j hj).2.2⟩,
    fun j k hj hk q1 q2 => by
    rw [(es j hj).1] at q1
    exact c.ne j k hj hk q1 q2,
    fun i hi => by
    rw [hτ 0 (by omega)] at hi
    exact ⟨o2 _ (c.os i hi).1, (c.os i hi).2⟩,
    fun i j hi hj q => by
    rw [hτ 0 (by omega)] at hi hj
    exact c.ns i j hi hj q,
    fun s h1 h2 => by rw [hτ 0 (by omega)] at h1; exact c.zz s h1 h2⟩
  refine r.upd (fun a => a = S ∨ a = x + 8 + k) hM s1 (fun a _ => by rw [kk]) (by omega) (fun a q => by rw [kk]; exact r.ho a (by omega)) (fun a q => by rw [kk, (r.ho a (by omega)).1]; omega) (fun _ _ => rfl) c' tn' (fun i => by rw [T.J (by omega)]; exact r.tj i) (T.I (by omega)) (T.J (by omega)) (T.I (by omega)) (T.I (by omega)) (T.I (by omega)) (T.I (by omega)) (T.J (by omega)) (by rw [T.I (by omega)]) (by rw [T.I (by omega)]) (by rw [T.I (by omega)]) (by rw [T.J (by omega)]) (by rw [T.J (by omega)])
/-- what an hour's driver leaves -/
theorem RL.hsum {o : Nat → Nat} {hC hC' hT hT' : AH} {z m x : Nat} {τ : Nat → Int} {υ υ' : Nat → Int64} {e : Nat → Nat} {el : Nat → Nat → Nat} {lw : Nat} (r : RL o hC hT z m x τ υ e el lw) {s : Nat} (hs : (s : Int) < τ 0)
    (hu : ∀ i, i ≠ s ∧ i ≠ 4 + s ∧ i ≠ 8 → υ' i = υ i) (kn : hn hC' = hn hC) (kk : hK hC' = hK hC) (kR : hR hC' = hR hC) (s0 : ∀ a, a ≠ el 0 s → a ≠ x → sm hC hC' a) (iS : hI hC' (el 0 s) = hI hC (el 0 s)) (ix : hI hC' x = hI hC x) (j5 : hJ hC' (el 0 s) 5 = υ' s) (j6 : hJ hC' (el 0 s) 6 = υ' (4 + s)) (j11 : hJ hC' x 11 = υ' 8)
    (T : tf (fun a => a = m + 3) hT hT') (tj' : ∀ i, hJ hT' (m + 3) i = υ' i) : RL o hC' hT' z m x τ υ' e el lw := by
  have c := r.c
  have hn4 := c.rg.n
  have st := (c.st s hs).2
  generalize hS : el 0 s = S at st s0 iS j5 j6
  have oS : o S = 2 := by rw [← hS]; exact (c.os s hs).1
  have xS : S < x ∨ x + 267 < S := by rw [← hS]; exact (c.os s hs).2
  have kS := st.k
  have ox : o x = 2 := c.ox 0 (by omega) (by omega)
  have s1 : ∀ a, a < hn hC → ¬ (fun a => a = S ∨ a = x) a → sm hC hC' a := fun a _ q => s0 a (fun w => q (Or.inl w)) (fun w => q (Or.inr w))
  have hM : ∀ a, (fun a => a = S ∨ a = x) a → o a = 2 ∧ ¬ imK (hK hC a) ∧ hK hC a ≠ 120 := fun a q => by
    have q : a = S ∨ a = x := q
    rcases q with q | q
    · rw [q, kS]
      exact ⟨oS, by unfold imK; omega, by omega⟩
    · rw [q, c.k]
      exact ⟨ox, by unfold imK; omega, by omega⟩
  have fs := RL.keep r (o' := o) (fun a => a = S ∨ a = x) hM s1 (fun _ _ => rfl)
  have hτ : ∀ i : Nat, i < 1000000 → τ i = τ i := fun _ _ => rfl
  have nE : ∀ j, j < 5 → hK hC (e j) = 108 → ¬ (e j = S ∨ e j = x) := fun j hj q w => by
    have := (c.oe j hj).2.2
    rcases w with w | w
    · rw [w, kS] at q; omega
    · omega
  obtain ⟨fim, f6, f7, h00, f2, o2⟩ := fs
  have sx1 : sm hC hC' (x + 1) := f2 _ (c.ox 1 (by omega) (by omega)) (by omega)
  have sx2 : sm hC hC' (x + 2) := f2 _ (c.ox 2 (by omega) (by omega)) (by omega)
  have sx3 : sm hC hC' (x + 3) := f2 _ (c.ox 3 (by omega) (by omega)) (by omega)
  have sx4 : sm hC hC' (x + 4) := f2 _ (c.ox 4 (by omega) (by omega)) (by omega)
  have sx5 : sm hC hC' (x + 5) := f2 _ (c.ox 5 (by omega) (by omega)) (by omega)
  have sx7 : sm hC hC' (x + 7) := f2 _ (c.ox 7 (by omega) (by omega)) (by omega)
  have sx264 : sm hC hC' (x + 264) := f2 _ (c.ox 264 (by omega) (by omega)) (by omega)
  have sx265 : sm hC hC' (x + 265) := f2 _ (c.ox 265 (by omega) (by omega)) (by omega)
  have sk : ∀ k, k < 256 → sm hC hC' (x + 8 + k) := fun k hk => by
    have := f2 (x + (8 + k)) (c.ox (8 + k) (by omega) (by omega)) (by omega)
    rw [show x + (8 + k) = x + 8 + k by omega] at this
    exact this
  have sw : ∀ k, k < 2 → sm hC hC' (x + 266 + k) := fun k hk => by
    have := f2 (x + (266 + k)) (c.ox (266 + k) (by omega) (by omega)) (by omega)
    rw [show x + (266 + k) = x + 266 + k by omega] at this
    exact this
  have sl : sm hC hC' lw := fim lw (by rw [c.kL]; unfold imK; omega)
  have e0s : sm hC hC' (e 0) := by
    rcases c.a0.c with q | q
    · exact f2 _ ((c.oe 0 (by omega)).1 q.1) (nE 0 (by omega) q.1)
    · exact (f7 _ q.2.1).1
  have e1s : sm hC hC' (e 1) := by
    rcases c.a1.c with q | q
    · exact f2 _ ((c.oe 1 (by omega)).1 q.1) (nE 1 (by omega) q.1)
    · exact (f7 _ q.2.1).1
  have e2s : sm hC hC' (e 2) := by
    rcases c.a2.c with q | q
    · exact f2 _ ((c.oe 2 (by omega)).1 q.1) (nE 2 (by omega) q.1)
    · exact (f7 _ q.2.1).1
  have e3s : sm hC hC' (e 3) := by
    rcases c.a3.c with q | q
    · exact f2 _ ((c.oe 3 (by omega)).1 q.1) (nE 3 (by omega) q.1)
    · exact (f7 _ q.2.1).1
  have e4s : sm hC hC' (e 4) := by
    rcases c.a4.c with q | q
    · exact f2 _ ((c.oe 4 (by omega)).1 q.1) (nE 4 (by omega) q.1)
    · exact (f7 _ q.2.1).1
  have es : ∀ j, j < 5 → sm hC hC' (e j) := by
    intro j hj
    rcases (show j = 0 ∨ j = 1 ∨ j = 2 ∨ j = 3 ∨ j = 4 by omega) with rfl | rfl | rfl | rfl | rfl
    · exact e0s
    · exact e1s
    · exact e2s
    · exact e3s
    · exact e4s
  have rg' := c.rg
  have c' : CrP o 2 hC' x τ υ' e el lw := ⟨by rw [kk]; exact c.k,
    by rw [kR]; exact c.r0,
    by rw [kR]; exact c.r1,
    by rw [kR]; exact c.r2,
    by rw [kR]; exact c.r3,
    by rw [kR]; exact c.r4,
    by rw [kR]; exact c.r5,
    by rw [kR]; exact c.r6,
    by rw [kR]; exact c.r7,
    by rw [kR]; exact c.r8,
    by rw [ix]; exact c.i9,
    by rw [ix]; exact c.i10,
    j11,
    by rw [sx7.1]; exact c.kb,
    by rw [sx7.2.1]; exact c.lb,
    fun k hk => ⟨by rw [sx7.2.2.2.2]; exact (c.b k hk).1, by rw [(sk k hk).1]; exact (c.b k hk).2.1, by rw [(sk k hk).2.1]; exact (c.b k hk).2.2.1, fun s hs => by rw [(sk k hk).2.2.1, hτ _ (by omega)]; exact (c.b k hk).2.2.2 s hs⟩,
    by rw [sx264.1]; exact c.kl,
    by rw [sx264.2.1]; exact c.ll,
    fun i hi => by rw [sx264.2.2.1, hτ _ (by omega)]; exact c.l i hi,
    by rw [sx265.1]; exact c.kw,
    by rw [sx265.2.1]; exact c.lw_,
    fun s hs => ⟨by rw [sx265.2.2.2.2]; exact (c.w s hs).1, by rw [(sw s hs).1]; exact (c.w s hs).2.1, by rw [(sw s hs).2.1]; exact (c.w s hs).2.2.1, fun l hl => by rw [(sw s hs).2.2.1, hτ _ (by omega)]; exact (c.w s hs).2.2.2 l hl⟩,
    by rw [sl.1]; exact c.kL,
    by rw [sl.2.2.1, hτ 120 (by omega)]; exact c.L0,
    by rw [sl.2.2.1, hτ 121 (by omega)]; exact c.L1,
    by rw [sl.2.2.1, hτ 122 (by omega)]; exact c.L2,
    by rw [sl.2.2.1, hτ 123 (by omega)]; exact c.L3,
    by rw [sl.2.2.1, hτ 124 (by omega)]; exact c.L4,
    by rw [hτ 0 (by omega)]; exact c.a0.fr sx1 e0s h00,
    by rw [hτ 1 (by omega)]; exact c.a1.fr sx2 e1s h00,
    by rw [hτ 6 (by omega)]; exact c.a2.fr sx3 e2s h00,
    by rw [hτ 4 (by omega)]; exact c.a3.fr sx4 e3s h00,
    by rw [hτ 5 (by omega)]; exact c.a4.fr sx5 e4s h00,
    fun i hi => by
          refine ⟨by rw [e0s.2.2.2.2]; exact (c.st i hi).1, ?_⟩
          by_cases q : i = s
          · subst q
            rw [hS]
            obtain ⟨rl, r1, r2⟩ := st.r
            exact ⟨by rw [kk]; exact kS, by rw [iS]; exact st.i0, by rw [iS]; exact st.i1, by rw [iS]; exact st.i2, by rw [iS]; exact st.i3, by rw [iS]; exact st.i4, j5, j6, rl, by rw [kR]; exact r1, r2.fr fim f6 (fun a q => (f7 a q).1) h00⟩
          · have sE : sm hC hC' (el 0 i) := f2 _ (c.os i hi).1 (fun w => by
              rcases w with w | w
              · exact q (c.ns i s hi hs (w.trans hS.symm))
              · have := (c.os i hi).2; omega)
            exact ((c.st i hi).2.fr fim f6 (fun a q => (f7 a q).1) h00 sE).cg rfl rfl rfl rfl rfl (hu _ (by omega)) (hu _ (by omega)) (fun j hj => rfl),
    fun k hk => by
    rw [hτ 1 (by omega)] at hk
    have hk6 := c.rg.d
    obtain ⟨k1, k2, k3, k4, k5, k6⟩ := c.dr k hk
    have sk := fim (el 1 k) (by rw [k2]; unfold imK; omega)
    exact ⟨by rw [e1s.2.2.2.2]; exact k1, by rw [sk.1]; exact k2, by rw [sk.2.2.1, hτ _ (by omega)]; exact k3, by rw [sk.2.2.1, hτ _ (by omega)]; exact k4, by rw [sk.2.2.1, hτ _ (by omega)]; exact k5, by rw [sk.2.2.1, hτ _ (by omega)]; exact k6⟩,
    fun k hk => by
    rw [hτ 6 (by omega)] at hk
    have hk6 := c.rg.c
    obtain ⟨k1, k2, k3, k4, k5⟩ := c.ch k hk
    have sk := fim (el 2 k) (by rw [k2]; unfold imK; omega)
    exact ⟨by rw [e2s.2.2.2.2]; exact k1, by rw [sk.1]; exact k2, by rw [sk.2.2.1, hτ _ (by omega)]; exact k3, by rw [sk.2.2.1, hτ _ (by omega)]; exact k4, by rw [sk.2.2.1, hτ _ (by omega)]; exact k5⟩,
    fun k hk => by
    rw [hτ 4 (by omega)] at hk
    have hk6 := c.rg.r
    obtain ⟨k1, k2, k3, k4, k5, k6, k7⟩ := c.ri k hk
    have sk := f6 _ k3
    refine ⟨by rw [e3s.2.2.2.2]; exact k1, by rw [sk.1.1]; exact k2, sk.2, by rw [hτ _ (by omega)]; exact k4, by rw [sk.1.2.1, hτ (61 + 3 * k) (by omega), hτ (62 + 3 * k) (by omega)]; exact k5, by rw [hτ (61 + 3 * k) (by omega), hτ (62 + 3 * k) (by omega)]; exact k6, fun j hj => ?_⟩
    rw [sk.1.2.1] at hj
    have hj3 : j < 3 := by rw [k5] at hj; split at hj <;> (try split at hj) <;> omega
    rw [sk.1.2.2.1, hτ _ (by omega)]
    exact k7 j hj,
    fun k hk => by
    rw [hτ 5 (by omega)] at hk
    have hk6 := c.rg.t
    have hk7 := c.rg.n
    obtain ⟨k1, k2, k3, k4, k5⟩ := c.to k hk
    have sk := f6 _ k3
    exact ⟨by rw [e4s.2.2.2.2]; exact k1, by rw [sk.1.1]; exact k2, sk.2, by rw [sk.1.2.1]; exact k4, fun s hs => by rw [hτ 0 (by omega)] at hs; rw [sk.1.2.2.1, hτ _ (by omega)]; exact k5 s hs⟩,
    rg',
    fun i h1 h2 => o2 _ (c.ox i h1 h2),
    fun j hj => by
    have ej := es j hj
    rw [ej.1]
    exact ⟨fun q => o2 _ ((c.oe j hj).1 q), fun q => (f7 _ q).2 ((c.oe j hj).2.1 q), (c.oe j hj).2.2⟩,
    fun j k hj hk q1 q2 => by
    rw [(es j hj).1] at q1
    exact c.ne j k hj hk q1 q2,
    fun i hi => by
    rw [hτ 0 (by omega)] at hi
    exact ⟨o2 _ (c.os i hi).1, (c.os i hi).2⟩,
    fun i j hi hj q => by
    rw [hτ 0 (by omega)] at hi hj
    exact c.ns i j hi hj q,
    fun s' h1 h2 => by rw [hu s' (by omega), hu (4 + s') (by omega)]; exact c.zz s' h1 h2⟩
  exact r.upd (fun a => a = S ∨ a = x) hM s1 (fun a _ => by rw [kk]) (by omega) (fun a q => by rw [kk]; exact r.ho a (by omega)) (fun a q => by rw [kk, (r.ho a (by omega)).1]; omega) (fun _ _ => rfl) c' (r.tn.tf T (by omega)) tj' (T.I (by omega)) (T.J (by omega)) (T.I (by omega)) (T.I (by omega)) (T.I (by omega)) (T.I (by omega)) (T.J (by omega)) (by rw [T.I (by omega)]) (by rw [T.I (by omega)]) (by rw [T.I (by omega)]) (by rw [T.J (by omega)]) (by rw [T.J (by omega)])
