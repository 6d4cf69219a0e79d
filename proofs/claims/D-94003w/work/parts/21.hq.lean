/-! PURE HQ: cost -/
set_option maxRecDepth 100000
theorem RL.cst {o : Nat → Nat} {hC hT : AH} {z m x : Nat} {τ : Nat → Int} {υ : Nat → Int64} {e : Nat → Nat} {el : Nat → Nat → Nat} {lw : Nat} (r : RL o hC hT z m x τ υ e el lw) {s v : Int} (hs : 0 ≤ s ∧ s < τ 0) (hv : 0 ≤ v ∧ v ≤ 99) : RL o (wI hC (el 0 s.toNat) 0 (iI v)) (wI hT (m + 1) (8 + s).toNat (iI v)) z m x (upT τ (8 + s).toNat v) υ e el lw := by
  have c := r.c
  have hn4 := c.rg.n
  obtain ⟨-, st⟩ := stat_at c hs
  have hz := r.hnz
  generalize hS : el 0 s.toNat = S at st ⊢
  have oS : o S = 2 := by rw [← hS]; exact (c.os s.toNat (by omega)).1
  have xS : S < x ∨ x + 267 < S := by rw [← hS]; exact (c.os s.toNat (by omega)).2
  have kS := st.k
  generalize hh : wI hC S 0 (iI v) = hC'
  have s0 : ∀ a, a < hn hC → ¬ (fun a => a = S) a → sm hC hC' a := fun a _ q => by rw [← hh]; exact sm_wI q
  have hM : ∀ a, (fun a => a = S) a → o a = 2 ∧ ¬ imK (hK hC a) ∧ hK hC a ≠ 120 := fun a q => by
    have q : a = S := q
    rw [q, kS]
    exact ⟨oS, by unfold imK; omega, by omega⟩
  have fs := RL.keep r (o' := o) (fun a => a = S) hM s0 (fun _ _ => rfl)
  have hτ : ∀ i, i ≠ (8 + s).toNat → upT τ (8 + s).toNat v i = τ i := fun i q => upT_o q
  have hυ : ∀ i : Nat, i < 9 → υ i = υ i := fun _ _ => rfl
  have nE : ∀ j, hK hC (e j) = 108 ∨ hK hC (e j) = 120 → e j ≠ S := fun j q w => by rw [w, kS] at q; omega
  obtain ⟨fim, f6, f7, h00, f2, o2⟩ := fs
  have sx0 : sm hC hC' x := f2 x (c.ox 0 (by omega) (by omega)) (by omega)
  have sx1 : sm hC hC' (x + 1) := f2 _ (c.ox 1 (by omega) (by omega)) (by omega)
  have sx2 : sm hC hC' (x + 2) := f2 _ (c.ox 2 (by omega) (by omega)) (by omega)
  have sx3 : sm hC hC' (x + 3) := f2 _ (c.ox 3 (by omega) (by omega)) (by omega)
  have sx4 : sm hC hC' (x + 4) := f2 _ (c.ox 4 (by omega) (by omega)) (by omega)
  have sx5 : sm hC hC' (x + 5) := f2 _ (c.ox 5 (by omega) (by omega)) (by omega)
  have sx7 : sm hC hC' (x + 7) := f2 _ (c.ox 7 (by omega) (by omega)) (by omega)
  have sx264 : sm hC hC' (x + 264) := f2 _ (c.ox 264 (by omega) (by omega)) (by omega)
  have sx265 : sm hC hC' (x + 265) := f2 _ (c.ox 265 (by omega) (by omega)) (by omega)
  have sk : ∀ k, k < 256 → sm hC hC' (x + 8 + k) := fun k hk => by
    have := f2 (x + (8 + k)) (c.ox (8 + k) (by omega) (by omega)) (by omega)
    rw [show x + (8 + k) = x + 8 + k by omega] at this
    exact this
  have sw : ∀ k, k < 2 → sm hC hC' (x + 266 + k) := fun k hk => by
    have := f2 (x + (266 + k)) (c.ox (266 + k) (by omega) (by omega)) (by omega)
    rw [show x + (266 + k) = x + 266 + k by omega] at this
    exact this
  have sl : sm hC hC' lw := fim lw (by rw [c.kL]; unfold imK; omega)
  have e0s : sm hC hC' (e 0) := by
    rcases c.a0.c with q | q
    · exact f2 _ ((c.oe 0 (by omega)).1 q.1) (nE 0 (Or.inl q.1))
    · exact (f7 _ q.2.1).1
  have e1s : sm hC hC' (e 1) := by
    rcases c.a1.c with q | q
    · exact f2 _ ((c.oe 1 (by omega)).1 q.1) (nE 1 (Or.inl q.1))
    · exact (f7 _ q.2.1).1
  have e2s : sm hC hC' (e 2) := by
    rcases c.a2.c with q | q
    · exact f2 _ ((c.oe 2 (by omega)).1 q.1) (nE 2 (Or.inl q.1))
    · exact (f7 _ q.2.1).1
  have e3s : sm hC hC' (e 3) := by
    rcases c.a3.c with q | q
    · exact f2 _ ((c.oe 3 (by omega)).1 q.1) (nE 3 (Or.inl q.1))
    · exact (f7 _ q.2.1).1
  have e4s : sm hC hC' (e 4) := by
    rcases c.a4.c with q | q
    · exact f2 _ ((c.oe 4 (by omega)).1 q.1) (nE 4 (Or.inl q.1))
    · exact (f7 _ q.2.1).1
  have es : ∀ j, j < 5 → sm hC hC' (e j) := by
    intro j hj
    rcases (show j = 0 ∨ j = 1 ∨ j = 2 ∨ j = 3 ∨ j = 4 by omega) with rfl | rfl | rfl | rfl | rfl
    · exact e0s
    · exact e1s
    · exact e2s
    · exact e3s
    · exact e4s
  have kk : hK hC' = hK hC := by rw [← hh]; rfl
  have kn : hn hC' = hn hC := by rw [← hh]; rfl
  have tn' := r.tn.set (8 + s).toNat (v := v) (by omega)
  have rg' : RG (upT τ (8 + s).toNat v) := ⟨by rw [hτ 0 (by omega)]; exact c.rg.n,
    by rw [hτ 1 (by omega)]; exact c.rg.d,
    by rw [hτ 2 (by omega)]; exact c.rg.h,
    by rw [hτ 3 (by omega)]; exact c.rg.l,
    by rw [hτ 4 (by omega)]; exact c.rg.r,
    by rw [hτ 5 (by omega)]; exact c.rg.t,
    by rw [hτ 6 (by omega)]; exact c.rg.c,
    fun i hi => by
          unfold upT
          split
          · omega
          · exact c.rg.cost i hi,
    fun i hi => by rw [hτ _ (by omega)]; exact c.rg.price i hi,
    fun i hi => by rw [hτ _ (by omega)]; exact c.rg.late i hi,
    fun i hi => by rw [hτ _ (by omega)]; exact c.rg.first i hi,
    fun i hi => by rw [hτ 0 (by omega)] at hi; have := c.rg.n; rw [hτ (24 + i) (by omega), hτ 2 (by omega)]; exact c.rg.chg i hi,
    fun k hk => by rw [hτ 1 (by omega)] at hk; have := c.rg.d; rw [hτ (28 + 4 * k) (by omega), hτ (29 + 4 * k) (by omega), hτ (30 + 4 * k) (by omega), hτ (31 + 4 * k) (by omega), hτ 0 (by omega)]; exact c.rg.drv k hk,
    fun i hi => by rw [hτ _ (by omega)]; exact c.rg.lev i hi,
    fun i hi => by rw [hτ 4 (by omega)] at hi; have := c.rg.r; rw [hτ _ (by omega)]; exact c.rg.rise i hi,
    fun i hi => by rw [hτ _ (by omega)]; exact c.rg.wgt i hi,
    by rw [hτ 120 (by omega)]; exact c.rg.once,
    by rw [hτ 121 (by omega)]; exact c.rg.at,
    by rw [hτ 122 (by omega)]; exact c.rg.cap,
    by rw [hτ 123 (by omega)]; exact c.rg.told,
    by rw [hτ 124 (by omega)]; exact c.rg.byc,
    fun i hi => by rw [hτ _ (by omega)]; exact c.rg.brd i hi,
    fun i hi => by rw [hτ _ (by omega)]; exact c.rg.row i hi,
    fun k hk => by rw [hτ 6 (by omega)] at hk; have := c.rg.c; rw [hτ (3149 + 3 * k) (by omega), hτ (3150 + 3 * k) (by omega), hτ (3151 + 3 * k) (by omega)]; exact c.rg.chn k hk,
    tn'.g⟩
  have ne16 : ∀ k : Nat, ∀ w, k ≠ 0 → hI hC S k = w → hI hC' S k = w := fun k w hk q => by rw [← hh, hI_wI, if_neg (fun q => hk q.2)]; exact q
  have jS : hJ hC' S = hJ hC S := by rw [← hh]; rfl
  have rS : hR hC' S = hR hC S := by rw [← hh]; rfl
  have c' : CrP o 2 hC' x (upT τ (8 + s).toNat v) υ e el lw := ⟨by rw [sx0.1]; exact c.k,
    by rw [sx0.2.2.2.2]; exact c.r0,
    by rw [sx0.2.2.2.2]; exact c.r1,
    by rw [sx0.2.2.2.2]; exact c.r2,
    by rw [sx0.2.2.2.2]; exact c.r3,
    by rw [sx0.2.2.2.2]; exact c.r4,
    by rw [sx0.2.2.2.2]; exact c.r5,
    by rw [sx0.2.2.2.2]; exact c.r6,
    by rw [sx0.2.2.2.2]; exact c.r7,
    by rw [sx0.2.2.2.2]; exact c.r8,
    by rw [sx0.2.2.1, hτ 2 (by omega)]; exact c.i9,
    by rw [sx0.2.2.1, hτ 3 (by omega)]; exact c.i10,
    by rw [sx0.2.2.2.1, hυ 8 (by omega)]; exact c.j11,
    by rw [sx7.1]; exact c.kb,
    by rw [sx7.2.1]; exact c.lb,
    fun k hk => ⟨by rw [sx7.2.2.2.2]; exact (c.b k hk).1, by rw [(sk k hk).1]; exact (c.b k hk).2.1, by rw [(sk k hk).2.1]; exact (c.b k hk).2.2.1, fun s hs => by rw [(sk k hk).2.2.1, hτ _ (by omega)]; exact (c.b k hk).2.2.2 s hs⟩,
    by rw [sx264.1]; exact c.kl,
    by rw [sx264.2.1]; exact c.ll,
    fun i hi => by rw [sx264.2.2.1, hτ _ (by omega)]; exact c.l i hi,
    by rw [sx265.1]; exact c.kw,
    by rw [sx265.2.1]; exact c.lw_,
    fun s hs => ⟨by rw [sx265.2.2.2.2]; exact (c.w s hs).1, by rw [(sw s hs).1]; exact (c.w s hs).2.1, by rw [(sw s hs).2.1]; exact (c.w s hs).2.2.1, fun l hl => by rw [(sw s hs).2.2.1, hτ _ (by omega)]; exact (c.w s hs).2.2.2 l hl⟩,
    by rw [sl.1]; exact c.kL,
    by rw [sl.2.2.1, hτ 120 (by omega)]; exact c.L0,
    by rw [sl.2.2.1, hτ 121 (by omega)]; exact c.L1,
    by rw [sl.2.2.1, hτ 122 (by omega)]; exact c.L2,
    by rw [sl.2.2.1, hτ 123 (by omega)]; exact c.L3,
    by rw [sl.2.2.1, hτ 124 (by omega)]; exact c.L4,
    by rw [hτ 0 (by omega)]; exact c.a0.fr sx1 e0s h00,
    by rw [hτ 1 (by omega)]; exact c.a1.fr sx2 e1s h00,
    by rw [hτ 6 (by omega)]; exact c.a2.fr sx3 e2s h00,
    by rw [hτ 4 (by omega)]; exact c.a3.fr sx4 e3s h00,
    by rw [hτ 5 (by omega)]; exact c.a4.fr sx5 e4s h00,
    fun i hi => by
          rw [hτ 0 (by omega)] at hi
          have e16 : (8 + s).toNat = 8 + s.toNat := by omega
          refine ⟨by rw [e0s.2.2.2.2]; exact (c.st i hi).1, ?_⟩
          by_cases q : i = s.toNat
          · subst q
            rw [hS]
            obtain ⟨rl, r1, r2⟩ := st.r
            exact ⟨by rw [kk]; exact kS, by rw [← hh, hI_wI, if_pos ⟨rfl, rfl⟩, e16, upT_s], by rw [hτ _ (by omega)]; exact ne16 1 _ (by omega) st.i1, by rw [hτ _ (by omega)]; exact ne16 2 _ (by omega) st.i2, by rw [hτ _ (by omega)]; exact ne16 3 _ (by omega) st.i3, by rw [hτ _ (by omega)]; exact ne16 4 _ (by omega) st.i4, by rw [jS]; exact st.j5, by rw [jS]; exact st.j6, rl, by rw [rS]; exact r1, (r2.fr fim f6 (fun a q => (f7 a q).1) h00).cg (fun j hj => hτ _ (by omega))⟩
          · have sE : sm hC hC' (el 0 i) := f2 _ (c.os i hi).1 (fun w => q (c.ns i s.toNat hi (by omega) (w.trans hS.symm)))
            exact ((c.st i hi).2.fr fim f6 (fun a q => (f7 a q).1) h00 sE).cg (hτ _ (by omega)) (hτ _ (by omega)) (hτ _ (by omega)) (hτ _ (by omega)) (hτ _ (by omega)) rfl rfl (fun j hj => hτ _ (by omega)),
    fun k hk => by
    rw [hτ 1 (by omega)] at hk
    have hk6 := c.rg.d
    obtain ⟨k1, k2, k3, k4, k5, k6⟩ := c.dr k hk
    have sk := fim (el 1 k) (by rw [k2]; unfold imK; omega)
    exact ⟨by rw [e1s.2.2.2.2]; exact k1, by rw [sk.1]; exact k2, by rw [sk.2.2.1, hτ _ (by omega)]; exact k3, by rw [sk.2.2.1, hτ _ (by omega)]; exact k4, by rw [sk.2.2.1, hτ _ (by omega)]; exact k5, by rw [sk.2.2.1, hτ _ (by omega)]; exact k6⟩,
    fun k hk => by
    rw [hτ 6 (by omega)] at hk
    have hk6 := c.rg.c
    obtain ⟨k1, k2, k3, k4, k5⟩ := c.ch k hk
    have sk := fim (el 2 k) (by rw [k2]; unfold imK; omega)
    exact ⟨by rw [e2s.2.2.2.2]; exact k1, by rw [sk.1]; exact k2, by rw [sk.2.2.1, hτ _ (by omega)]; exact k3, by rw [sk.2.2.1, hτ _ (by omega)]; exact k4, by rw [sk.2.2.1, hτ _ (by omega)]; exact k5⟩,
    fun k hk => by
    rw [hτ 4 (by omega)] at hk
    have hk6 := c.rg.r
    obtain ⟨k1, k2, k3, k4, k5, k6, k7⟩ := c.ri k hk
    have sk := f6 _ k3
    refine ⟨by rw [e3s.2.2.2.2]; exact k1, by rw [sk.1.1]; exact k2, sk.2, by rw [hτ _ (by omega)]; exact k4, by rw [sk.1.2.1, hτ (61 + 3 * k) (by omega), hτ (62 + 3 * k) (by omega)]; exact k5, by rw [hτ (61 + 3 * k) (by omega), hτ (62 + 3 * k) (by omega)]; exact k6, fun j hj => ?_⟩
    rw [sk.1.2.1] at hj
    have hj3 : j < 3 := by rw [k5] at hj; split at hj <;> (try split at hj) <;> omega
    rw [sk.1.2.2.1, hτ _ (by omega)]
    exact k7 j hj,
    fun k hk => by
    rw [hτ 5 (by omega)] at hk
    have hk6 := c.rg.t
    have hk7 := c.rg.n
    obtain ⟨k1, k2, k3, k4, k5⟩ := c.to k hk
    have sk := f6 _ k3
    exact ⟨by rw [e4s.2.2.2.2]; exact k1, by rw [sk.1.1]; exact k2, sk.2, by rw [sk.1.2.1]; exact k4, fun s hs => by rw [hτ 0 (by omega)] at hs; rw [sk.1.2.2.1, hτ _ (by omega)]; exact k5 s hs⟩,
    rg',
    fun i h1 h2 => o2 _ (c.ox i h1 h2),
    fun j hj => by
    have ej := es j hj
    rw [ej.1]
    exact ⟨fun q => o2 _ ((c.oe j hj).1 q), fun q => (f7 _ q).2 ((c.oe j hj).2.1 q), (c.oe j hj).2.2⟩,
    fun j k hj hk q1 q2 => by
    rw [(es j hj).1] at q1
    exact c.ne j k hj hk q1 q2,
    fun i hi => by
    rw [hτ 0 (by omega)] at hi
    exact ⟨o2 _ (c.os i hi).1, (c.os i hi).2⟩,
    fun i j hi hj q => by
    rw [hτ 0 (by omega)] at hi hj
    exact c.ns i j hi hj q,
    fun s h1 h2 => by rw [hτ 0 (by omega)] at h1; exact c.zz s h1 h2⟩
  refine r.upd (fun a => a = S) hM s0 (fun a _ => by rw [kk]) (by omega) (fun a q => by rw [kk]; exact r.ho a (by omega)) (fun a q => by rw [kk, (r.ho a (by omega)).1]; omega) (fun _ _ => rfl) c' tn' r.tj ?_ rfl ?_ ?_ ?_ ?_ rfl ?_ ?_ ?_ rfl rfl
  · exact (sm_wI (by omega)).2.2.1
  · exact (sm_wI (by omega)).2.2.1
  · exact (sm_wI (by omega)).2.2.1
  · exact (sm_wI (by omega)).2.2.1
  · exact (sm_wI (by omega)).2.2.1
  · rw [hI_wI, if_neg (by omega)]
  · rw [hI_wI, if_neg (by omega)]
  · rw [hI_wI, if_neg (by omega)]

theorem rem_eq {h : AH} {l e : Nat} {n : Int} (a : AL h l e n) (hn1 : 2 ≤ n ∧ n ≤ 100) {v : Nat} (hv : hR h e 0 = some v) (ok : ∀ i : Nat, (i : Int) < n → okOb h (hR h e i) = true) : ∃ h', F_J2_remove h l (iI 0) = some (v, h') ∧ AL h' l e (n - 1) ∧ (∀ i : Nat, (i : Int) < n - 1 → hR h' e i = hR h e (i + 1)) ∧ (hn h' = hn h ∧ hc h' = hc h ∧ hs h' = hs h) ∧ hK h' = hK h ∧ hL h' = hL h ∧ ∀ b, b ≠ l → b ≠ e → sm h h' b := by
  have ne := a.ne
  have ce : hK h e = 108 ∧ n ≤ hL h e ∧ hL h e ≤ 200 ∧ 10 ≤ hL h e := by rcases a.c with w | w <;> omega
  generalize hm : wI h l 0 (hI h l 0 + iI 1) = h1
  have kk : hK h1 = hK h := by rw [← hm]; rfl
  have kL : hL h1 = hL h := by rw [← hm]; rfl
  have kR : hR h1 = hR h := by rw [← hm]; rfl
  have i2 : hI h1 l 2 = iI n := by rw [← hm, hI_wI, if_neg (by omega)]; exact a.n
  have q1 : (n - 1 ≤ 0) = False := eq_false (by omega)
  have q2 : ((0 : Int) < n) = True := eq_true (by omega)
  have tn1 : (iI (n - 1)).toInt = n - 1 := i_toInt (by omega)
  have t1 : (iI 1).toInt = 1 := rfl
  have t0 : (iI 0).toInt = 0 := rfl
  have tm : (iI (n - 1 - 0)).toInt = n - 1 - 0 := i_toInt (by omega)
  have okk : (∀ i, i < (n - 1).toNat → okOb h1 (hR h e (1 + i)) = true) = True := eq_true (fun i hi => by
    have := ok (1 + i) (by omega)
    unfold okOb at this ⊢
    rw [kk]
    exact this)
  have key : Ok1 (F_J2_remove h l (iI 0)) (fun r => r.1 = v ∧ AL r.2 l e (n - 1) ∧ (∀ i : Nat, (i : Int) < n - 1 → hR r.2 e i = hR h e (i + 1)) ∧ (hn r.2 = hn h ∧ hc r.2 = hc h ∧ hs r.2 = hs h) ∧ hK r.2 = hK h ∧ hL r.2 = hL h ∧ ∀ b, b ≠ l → b ≠ e → sm h r.2 b) := by
    unfold F_J2_remove F_J2_fastRemove F_J12_checkIndex F_J13_checkIndex
    have z0 : (0 < 0 ∨ False) = False := by simp
    simp (disch := omega) only [i_lit, i_neg, i_add, i_sub, i_mul, i_ofNat, i_div, i_le, i_lt, i_eq, i_ix, i_inb, i_max, i_min, e_rem, j_lit, j_i, Int.reduceToNat, Int.reduceAdd, Int.reduceSub, Int.reduceMul, Int.reduceNeg, Int.reduceLT, Int.reduceLE, Int.reduceEq, gd_t, gd_T, ↓bd_m, ↓lh_t, ↓on_m, ↓ec_m, ↓reduceIte, if_true, if_false, true_and, and_true, false_and, and_false, true_or, or_true, false_or, or_false, Bool.false_eq_true, b2i_0, b2i_1, bl_0, bl_1, bl_b2, not_true_eq_false, not_false_eq_true, a.k, a.n, a.r, hv, ce.1, hm, hK_wI, kk, kL, kR, i2, q1, q2, tn1, t1, t0, tm, okk, Int.sub_zero, Int.toNat_zero, Int.lt_irrefl, Int.le_refl, B_J2_fastRemove_34, hK_cpR, hL_wI, hL_cpR]
    refine Ok1.some ⟨rfl, ⟨?_, ?_, ?_, by omega, ?_⟩, fun i hi => ?_, ⟨?_, ?_, ?_⟩, ?_, ?_, fun b b1 b2 => ?_⟩
    · rw [hK_wR, hK_wI, hK_cpR, kk]; exact a.k
    · rw [hI_wR, hI_wI, if_pos ⟨rfl, rfl⟩]
    · rw [hR_wR, if_neg (by omega), hR_wI, hR_cpR, if_neg ne, kR]; exact a.r
    · rw [hK_wR, hK_wI, hK_cpR, kk, hL_wR, hL_wI, hL_cpR, kL]
      exact Or.inl ⟨ce.1, by omega, by omega, by omega⟩
    · rw [hR_wR, if_neg (by omega), hR_wI, hR_cpR, if_pos rfl]
      unfold va_cpy
      rw [if_pos (by omega), kR, show 1 + (i - 0) = i + 1 by omega]
    · rw [hn_wR, hn_wI]; show hn h1 = hn h; rw [← hm]; rfl
    · rw [hc_wR, hc_wI]; show hc h1 = hc h; rw [← hm]; rfl
    · rw [hs_wR, hs_wI]; show hs h1 = hs h; rw [← hm]; rfl
    · rw [hK_wR, hK_wI, hK_cpR, kk]
    · rw [hL_wR, hL_wI, hL_cpR, kL]
    · refine sm.trans ?_ (((sm_cpR b2).trans (sm_wI b1)).trans (sm_wR b2))
      rw [← hm]; exact sm_wI b1
  obtain ⟨⟨v', h'⟩, k1, k2, k3⟩ := key
  have k2 : v' = v := k2
  subst k2
  exact ⟨h', k1, k3⟩
/-- the first of ten changes is dropped on both sides -/
theorem RL.drop {o : Nat → Nat} {hC hC' hT hT' : AH} {z m x : Nat} {τ τ' : Nat → Int} {υ : Nat → Int64} {e : Nat → Nat} {el : Nat → Nat → Nat} {lw : Nat} (r : RL o hC hT z m x τ υ e el lw) (h10 : τ 6 = 10) (a2' : AL hC' (x + 3) (e 2) 9) (sh : ∀ i : Nat, (i : Int) < 9 → hR hC' (e 2) i = hR hC (e 2) (i + 1)) (kn : hn hC' = hn hC) (kk : hK hC' = hK hC) (sx : ∀ b, b ≠ x + 3 → b ≠ e 2 → sm hC hC' b) (hτ : ∀ i, ¬ (i = 6 ∨ (3149 ≤ i ∧ i < 3176)) → τ' i = τ i) (tc : τ' 6 = 9) (ts : ∀ i, 3149 ≤ i → i < 3176 → τ' i = τ (i + 3)) (T : tf (fun a => a = m + 1) hT hT') (tn' : TN hT' m τ') : RL o hC' hT' z m x τ' υ e (fun i k => if i = 2 then el 2 (k + 1) else el i k) lw := by
  have c := r.c
  have hn4 := c.rg.n
  have ke : hK hC (e 2) = 108 := by
    have := a2'.c
    rw [kk] at this
    omega
  have oE : o (e 2) = 2 := (c.oe 2 (by omega)).1 ke
  have oL : o (x + 3) = 2 := c.ox 3 (by omega) (by omega)
  have s1 : ∀ a, a < hn hC → ¬ (fun a => a = x + 3 ∨ a = e 2) a → sm hC hC' a := fun a _ q => sx a (fun w => q (Or.inl w)) (fun w => q (Or.inr w))
  have hM : ∀ a, (fun a => a = x + 3 ∨ a = e 2) a → o a = 2 ∧ ¬ imK (hK hC a) ∧ hK hC a ≠ 120 := fun a q => by
    rcases q with q | q
    · rw [q, c.a2.k]; exact ⟨oL, by unfold imK; omega, by omega⟩
    · rw [q, ke]; exact ⟨oE, by unfold imK; omega, by omega⟩
  have fs := RL.keep r (o' := o) (fun a => a = x + 3 ∨ a = e 2) hM s1 (fun _ _ => rfl)
  have hυ : ∀ i : Nat, i < 9 → υ i = υ i := fun _ _ => rfl
  have xe := (c.oe 2 (by omega)).2.2
  have nE : ∀ i, i < 5 → i ≠ 2 → hK hC (e i) = 108 → ¬ (e i = x + 3 ∨ e i = e 2) := fun i hi ne q w => by
    have := (c.oe i hi).2.2
    rcases w with w | w
    · omega
    · exact ne (c.ne i 2 hi (by omega) q w)
  obtain ⟨fim, f6, f7, h00, f2, o2⟩ := fs
  have sx0 : sm hC hC' x := f2 x (c.ox 0 (by omega) (by omega)) (by omega)
  have sx1 : sm hC hC' (x + 1) := f2 _ (c.ox 1 (by omega) (by omega)) (by omega)
  have sx2 : sm hC hC' (x + 2) := f2 _ (c.ox 2 (by omega) (by omega)) (by omega)
  have sx4 : sm hC hC' (x + 4) := f2 _ (c.ox 4 (by omega) (by omega)) (by omega)
  have sx5 : sm hC hC' (x + 5) := f2 _ (c.ox 5 (by omega) (by omega)) (by omega)
  have sx7 : sm hC hC' (x + 7) := f2 _ (c.ox 7 (by omega) (by omega)) (by omega)
  have sx264 : sm hC hC' (x + 264) := f2 _ (c.ox 264 (by omega) (by omega)) (by omega)
  have sx265 : sm hC hC' (x + 265) := f2 _ (c.ox 265 (by omega) (by omega)) (by omega)
  have sk : ∀ k, k < 256 → sm hC hC' (x + 8 + k) := fun k hk => by
    have := f2 (x + (8 + k)) (c.ox (8 + k) (by omega) (by omega)) (by omega)
    rw [show x + (8 + k) = x + 8 + k by omega] at this
    exact this
  have sw : ∀ k, k < 2 → sm hC hC' (x + 266 + k) := fun k hk => by
    have := f2 (x + (266 + k)) (c.ox (266 + k) (by omega) (by omega)) (by omega)
    rw [show x + (266 + k) = x + 266 + k by omega] at this
    exact this
  have sl : sm hC hC' lw := fim lw (by rw [c.kL]; unfold imK; omega)
  have e0s : sm hC hC' (e 0) := by
    rcases c.a0.c with q | q
    · exact f2 _ ((c.oe 0 (by omega)).1 q.1) (nE 0 (by omega) (by omega) q.1)
    · exact (f7 _ q.2.1).1
  have e1s : sm hC hC' (e 1) := by
    rcases c.a1.c with q | q
    · exact f2 _ ((c.oe 1 (by omega)).1 q.1) (nE 1 (by omega) (by omega) q.1)
    · exact (f7 _ q.2.1).1
  have e3s : sm hC hC' (e 3) := by
    rcases c.a3.c with q | q
    · exact f2 _ ((c.oe 3 (by omega)).1 q.1) (nE 3 (by omega) (by omega) q.1)
    · exact (f7 _ q.2.1).1
  have e4s : sm hC hC' (e 4) := by
    rcases c.a4.c with q | q
    · exact f2 _ ((c.oe 4 (by omega)).1 q.1) (nE 4 (by omega) (by omega) q.1)
    · exact (f7 _ q.2.1).1
  have sst : ∀ i : Nat, (i : Int) < τ 0 → sm hC hC' (el 0 i) := fun i hi => f2 _ (c.os i hi).1 (fun w => by
    have h1 := (c.os i hi).2
    have h2 := (c.st i hi).2.k
    rcases w with w | w
    · omega
    · rw [w] at h2; omega)
  have rg' : RG τ' := ⟨by rw [hτ 0 (by omega)]; exact c.rg.n,
    by rw [hτ 1 (by omega)]; exact c.rg.d,
    by rw [hτ 2 (by omega)]; exact c.rg.h,
    by rw [hτ 3 (by omega)]; exact c.rg.l,
    by rw [hτ 4 (by omega)]; exact c.rg.r,
    by rw [hτ 5 (by omega)]; exact c.rg.t,
    by rw [tc]; omega,
    fun i hi => by rw [hτ _ (by omega)]; exact c.rg.cost i hi,
    fun i hi => by rw [hτ _ (by omega)]; exact c.rg.price i hi,
    fun i hi => by rw [hτ _ (by omega)]; exact c.rg.late i hi,
    fun i hi => by rw [hτ _ (by omega)]; exact c.rg.first i hi,
    fun i hi => by rw [hτ 0 (by omega)] at hi; have := c.rg.n; rw [hτ (24 + i) (by omega), hτ 2 (by omega)]; exact c.rg.chg i hi,
    fun k hk => by rw [hτ 1 (by omega)] at hk; have := c.rg.d; rw [hτ (28 + 4 * k) (by omega), hτ (29 + 4 * k) (by omega), hτ (30 + 4 * k) (by omega), hτ (31 + 4 * k) (by omega), hτ 0 (by omega)]; exact c.rg.drv k hk,
    fun i hi => by rw [hτ _ (by omega)]; exact c.rg.lev i hi,
    fun i hi => by rw [hτ 4 (by omega)] at hi; have := c.rg.r; rw [hτ _ (by omega)]; exact c.rg.rise i hi,
    fun i hi => by rw [hτ _ (by omega)]; exact c.rg.wgt i hi,
    by rw [hτ 120 (by omega)]; exact c.rg.once,
    by rw [hτ 121 (by omega)]; exact c.rg.at,
    by rw [hτ 122 (by omega)]; exact c.rg.cap,
    by rw [hτ 123 (by omega)]; exact c.rg.told,
    by rw [hτ 124 (by omega)]; exact c.rg.byc,
    fun i hi => by rw [hτ _ (by omega)]; exact c.rg.brd i hi,
    fun i hi => by rw [hτ _ (by omega)]; exact c.rg.row i hi,
    fun k hk => by
          rw [tc] at hk
          rw [ts (3149 + 3 * k) (by omega) (by omega), ts (3150 + 3 * k) (by omega) (by omega), ts (3151 + 3 * k) (by omega) (by omega)]
          have := c.rg.chn (k + 1) (by omega)
          rw [show 3149 + 3 * (k + 1) = 3149 + 3 * k + 3 by omega, show 3150 + 3 * (k + 1) = 3150 + 3 * k + 3 by omega, show 3151 + 3 * (k + 1) = 3151 + 3 * k + 3 by omega] at this
          exact this,
    tn'.g⟩
  have c' : CrP o 2 hC' x τ' υ e (fun i k => if i = 2 then el 2 (k + 1) else el i k) lw := ⟨by rw [sx0.1]; exact c.k,
    by rw [sx0.2.2.2.2]; exact c.r0,
    by rw [sx0.2.2.2.2]; exact c.r1,
    by rw [sx0.2.2.2.2]; exact c.r2,
    by rw [sx0.2.2.2.2]; exact c.r3,
    by rw [sx0.2.2.2.2]; exact c.r4,
    by rw [sx0.2.2.2.2]; exact c.r5,
    by rw [sx0.2.2.2.2]; exact c.r6,
    by rw [sx0.2.2.2.2]; exact c.r7,
    by rw [sx0.2.2.2.2]; exact c.r8,
    by rw [sx0.2.2.1, hτ 2 (by omega)]; exact c.i9,
    by rw [sx0.2.2.1, hτ 3 (by omega)]; exact c.i10,
    by rw [sx0.2.2.2.1, hυ 8 (by omega)]; exact c.j11,
    by rw [sx7.1]; exact c.kb,
    by rw [sx7.2.1]; exact c.lb,
    fun k hk => ⟨by rw [sx7.2.2.2.2]; exact (c.b k hk).1, by rw [(sk k hk).1]; exact (c.b k hk).2.1, by rw [(sk k hk).2.1]; exact (c.b k hk).2.2.1, fun s hs => by rw [(sk k hk).2.2.1, hτ _ (by omega)]; exact (c.b k hk).2.2.2 s hs⟩,
    by rw [sx264.1]; exact c.kl,
    by rw [sx264.2.1]; exact c.ll,
    fun i hi => by rw [sx264.2.2.1, hτ _ (by omega)]; exact c.l i hi,
    by rw [sx265.1]; exact c.kw,
    by rw [sx265.2.1]; exact c.lw_,
    fun s hs => ⟨by rw [sx265.2.2.2.2]; exact (c.w s hs).1, by rw [(sw s hs).1]; exact (c.w s hs).2.1, by rw [(sw s hs).2.1]; exact (c.w s hs).2.2.1, fun l hl => by rw [(sw s hs).2.2.1, hτ _ (by omega)]; exact (c.w s hs).2.2.2 l hl⟩,
    by rw [sl.1]; exact c.kL,
    by rw [sl.2.2.1, hτ 120 (by omega)]; exact c.L0,
    by rw [sl.2.2.1, hτ 121 (by omega)]; exact c.L1,
    by rw [sl.2.2.1, hτ 122 (by omega)]; exact c.L2,
    by rw [sl.2.2.1, hτ 123 (by omega)]; exact c.L3,
    by rw [sl.2.2.1, hτ 124 (by omega)]; exact c.L4,
    by rw [hτ 0 (by omega)]; exact c.a0.fr sx1 e0s h00,
    by rw [hτ 1 (by omega)]; exact c.a1.fr sx2 e1s h00,
    by rw [tc]; exact a2',
    by rw [hτ 4 (by omega)]; exact c.a3.fr sx4 e3s h00,
    by rw [hτ 5 (by omega)]; exact c.a4.fr sx5 e4s h00,
    fun i hi => by
    rw [hτ 0 (by omega)] at hi
    have hi4 := c.rg.n
    exact ⟨by rw [e0s.2.2.2.2]; exact (c.st i hi).1, ((c.st i hi).2.fr fim f6 (fun a q => (f7 a q).1) h00 (sst i hi)).cg (hτ _ (by omega)) (hτ _ (by omega)) (hτ _ (by omega)) (hτ _ (by omega)) (hτ _ (by omega)) (hυ _ (by omega)) (hυ _ (by omega)) (fun j hj => hτ _ (by omega))⟩,
    fun k hk => by
          simp only [Nat.reduceEqDiff, reduceIte]
          rw [hτ 1 (by omega)] at hk
          have hk6 := c.rg.d
          obtain ⟨k1, k2, k3, k4, k5, k6⟩ := c.dr k hk
          have sk := fim (el 1 k) (by rw [k2]; unfold imK; omega)
          exact ⟨by rw [e1s.2.2.2.2]; exact k1, by rw [sk.1]; exact k2, by rw [sk.2.2.1, hτ _ (by omega)]; exact k3, by rw [sk.2.2.1, hτ _ (by omega)]; exact k4, by rw [sk.2.2.1, hτ _ (by omega)]; exact k5, by rw [sk.2.2.1, hτ _ (by omega)]; exact k6⟩,
    fun k hk => by
          rw [tc] at hk
          simp only [if_true]
          obtain ⟨k1, k2, k3, k4, k5⟩ := c.ch (k + 1) (by omega)
          have sk := fim (el 2 (k + 1)) (by rw [k2]; unfold imK; omega)
          rw [show 3149 + 3 * (k + 1) = 3149 + 3 * k + 3 by omega] at k3
          rw [show 3150 + 3 * (k + 1) = 3150 + 3 * k + 3 by omega] at k4
          rw [show 3151 + 3 * (k + 1) = 3151 + 3 * k + 3 by omega] at k5
          exact ⟨by rw [sh k (by omega)]; exact k1, by rw [sk.1]; exact k2, by rw [sk.2.2.1, ts _ (by omega) (by omega)]; exact k3, by rw [sk.2.2.1, ts _ (by omega) (by omega)]; exact k4, by rw [sk.2.2.1, ts _ (by omega) (by omega)]; exact k5⟩,
    fun k hk => by
          simp only [Nat.reduceEqDiff, reduceIte]
          rw [hτ 4 (by omega)] at hk
          have hk6 := c.rg.r
          obtain ⟨k1, k2, k3, k4, k5, k6, k7⟩ := c.ri k hk
          have sk := f6 _ k3
          refine ⟨by rw [e3s.2.2.2.2]; exact k1, by rw [sk.1.1]; exact k2, sk.2, by rw [hτ _ (by omega)]; exact k4, by rw [sk.1.2.1, hτ (61 + 3 * k) (by omega), hτ (62 + 3 * k) (by omega)]; exact k5, by rw [hτ (61 + 3 * k) (by omega), hτ (62 + 3 * k) (by omega)]; exact k6, fun j hj => ?_⟩
          rw [sk.1.2.1] at hj
          have hj3 : j < 3 := by rw [k5] at hj; split at hj <;> (try split at hj) <;> omega
          rw [sk.1.2.2.1, hτ _ (by omega)]
          exact k7 j hj,
    fun k hk => by
          simp only [Nat.reduceEqDiff, reduceIte]
          rw [hτ 5 (by omega)] at hk
          have hk6 := c.rg.t
          have hk7 := c.rg.n
          obtain ⟨k1, k2, k3, k4, k5⟩ := c.to k hk
          have sk := f6 _ k3
          exact ⟨by rw [e4s.2.2.2.2]; exact k1, by rw [sk.1.1]; exact k2, sk.2, by rw [sk.1.2.1]; exact k4, fun s hs => by rw [hτ 0 (by omega)] at hs; rw [sk.1.2.2.1, hτ _ (by omega)]; exact k5 s hs⟩,
    rg',
    fun i h1 h2 => o2 _ (c.ox i h1 h2),
    fun i hi => by
          rw [kk]
          exact c.oe i hi,
    fun i k hi hk q1 q2 => by
          rw [kk] at q1
          exact c.ne i k hi hk q1 q2,
    fun i hi => by
    rw [hτ 0 (by omega)] at hi
    exact ⟨o2 _ (c.os i hi).1, (c.os i hi).2⟩,
    fun i j hi hj q => by
    rw [hτ 0 (by omega)] at hi hj
    exact c.ns i j hi hj q,
    fun s h1 h2 => by rw [hτ 0 (by omega)] at h1; exact c.zz s h1 h2⟩
  exact r.upd (fun a => a = x + 3 ∨ a = e 2) hM s1 (fun a _ => by rw [kk]) (by omega) (fun a q => by rw [kk]; exact r.ho a (by omega)) (fun a q => by rw [kk, (r.ho a (by omega)).1]; omega) (fun _ _ => rfl) c' tn' (fun i => by rw [T.J (by omega)]; exact r.tj i) (T.I (by omega)) (T.J (by omega)) (T.I (by omega)) (T.I (by omega)) (T.I (by omega)) (T.I (by omega)) (T.J (by omega)) (by rw [T.I (by omega)]) (by rw [T.I (by omega)]) (by rw [T.I (by omega)]) (by rw [T.J (by omega)]) (by rw [T.J (by omega)])
