/-! PURE T: late, and what all changes need -/
set_option maxRecDepth 100000
def upT (τ : Nat → Int) (k : Nat) (v : Int) : Nat → Int := fun i => if i = k then v else τ i
theorem upT_s (τ : Nat → Int) (k : Nat) (v : Int) : upT τ k v k = v := if_pos rfl
theorem upT_o {τ : Nat → Int} {k : Nat} {v : Int} {i : Nat} (h : i ≠ k) : upT τ k v i = τ i := if_neg h
theorem TN.set {h : AH} {m : Nat} {τ : Nat → Int} (t : TN h m τ) (k : Nat) {v : Int} (hv : i31 v) : TN (wI h (m + 1) k (iI v)) m (upT τ k v) := by
  refine ⟨t.s.tf (tf_wI (P := fun a => a = m + 1) rfl), fun i => ?_, fun i => ?_⟩
  · rw [hI_wI]
    unfold upT
    by_cases q : i = k
    · rw [if_pos ⟨rfl, q⟩, if_pos q]
    · rw [if_neg (fun w => q w.2), if_neg q]
      exact t.i i
  · unfold upT
    split
    · exact hv
    · exact t.g i
theorem rm.wI {z : Nat} {h : AH} (g : rm z h) (a k : Nat) (v : Int32) : rm z (wI h a k v) := g
theorem RL.late {o : Nat → Nat} {hC hT : AH} {z m x : Nat} {τ : Nat → Int} {υ : Nat → Int64} {e : Nat → Nat} {el : Nat → Nat → Nat} {lw : Nat} (r : RL o hC hT z m x τ υ e el lw) {s v : Int} (hs : 0 ≤ s ∧ s < τ 0) (hv : 0 ≤ v ∧ v ≤ 3) : RL o (wI hC (el 0 s.toNat) 1 (iI v)) (wI hT (m + 1) (16 + s).toNat (iI v)) z m x (upT τ (16 + s).toNat v) υ e el lw := by
  have c := r.c
  have hn4 := c.rg.n
  obtain ⟨-, st⟩ := stat_at c hs
  have hz := r.hnz
  generalize hS : el 0 s.toNat = S at st ⊢
  have oS : o S = 2 := by rw [← hS]; exact (c.os s.toNat (by omega)).1
  have xS : S < x ∨ x + 267 < S := by rw [← hS]; exact (c.os s.toNat (by omega)).2
  have kS := st.k
  generalize hh : wI hC S 1 (iI v) = hC'
  have s0 : ∀ a, a < hn hC → ¬ (fun a => a = S) a → sm hC hC' a := fun a _ q => by rw [← hh]; exact sm_wI q
  have hM : ∀ a, (fun a => a = S) a → o a = 2 ∧ ¬ imK (hK hC a) ∧ hK hC a ≠ 120 := fun a q => by
    have q : a = S := q
    rw [q, kS]
    exact ⟨oS, by unfold imK; omega, by omega⟩
  have fs := RL.keep r (o' := o) (fun a => a = S) hM s0 (fun _ _ => rfl)
  have hτ : ∀ i, i ≠ (16 + s).toNat → upT τ (16 + s).toNat v i = τ i := fun i q => upT_o q
  have hυ : ∀ i : Nat, i < 9 → υ i = υ i := fun _ _ => rfl
  have nE : ∀ j, hK hC (e j) = 108 ∨ hK hC (e j) = 120 → e j ≠ S := fun j q w => by rw [w, kS] at q; omega
  obtain ⟨fim, f6, f7, h00, f2, o2⟩ := fs
  have sx0 : sm hC hC' x := f2 x (c.ox 0 (by omega) (by omega)) (by omega)
  have sx1 : sm hC hC' (x + 1) := f2 _ (c.ox 1 (by omega) (by omega)) (by omega)
  have sx2 : sm hC hC' (x + 2) := f2 _ (c.ox 2 (by omega) (by omega)) (by omega)
  have sx3 : sm hC hC' (x + 3) := f2 _ (c.ox 3 (by omega) (by omega)) (by omega)
  have sx4 : sm hC hC' (x + 4) := f2 _ (c.ox 4 (by omega) (by omega)) (by omega)
  have sx5 : sm hC hC' (x + 5) := f2 _ (c.ox 5 (by omega) (by omega)) (by omega)
  have sx7 : sm hC hC' (x + 7) := f2 _ (c.ox 7 (by omega) (by omega)) (by omega)
  have sx264 : sm hC hC' (x + 264) := f2 _ (c.ox 264 (by omega) (by omega)) (by omega)
  have sx265 : sm hC hC' (x + 265) := f2 _ (c.ox 265 (by omega) (by omega)) (by omega)
  have sk : ∀ k, k < 256 → sm hC hC' (x + 8 + k) := fun k hk => by
    have := f2 (x + (8 + k)) (c.ox (8 + k) (by omega) (by omega)) (by omega)
    rw [show x + (8 + k) = x + 8 + k by omega] at this
    exact this
  have sw : ∀ k, k < 2 → sm hC hC' (x + 266 + k) := fun k hk => by
    have := f2 (x + (266 + k)) (c.ox (266 + k) (by omega) (by omega)) (by omega)
    rw [show x + (266 + k) = x + 266 + k by omega] at this
    exact this
  have sl : sm hC hC' lw := fim lw (by rw [c.kL]; unfold imK; omega)
  have e0s : sm hC hC' (e 0) := by
    rcases c.a0.c with q | q
    · exact f2 _ ((c.oe 0 (by omega)).1 q.1) (nE 0 (Or.inl q.1))
    · exact (f7 _ q.2.1).1
  have e1s : sm hC hC' (e 1) := by
    rcases c.a1.c with q | q
    · exact f2 _ ((c.oe 1 (by omega)).1 q.1) (nE 1 (Or.inl q.1))
    · exact (f7 _ q.2.1).1
  have e2s : sm hC hC' (e 2) := by
    rcases c.a2.c with q | q
    · exact f2 _ ((c.oe 2 (by omega)).1 q.1) (nE 2 (Or.inl q.1))
    · exact (f7 _ q.2.1).1
  have e3s : sm hC hC' (e 3) := by
    rcases c.a3.c with q | q
    · exact f2 _ ((c.oe 3 (by omega)).1 q.1) (nE 3 (Or.inl q.1))
    · exact (f7 _ q.2.1).1
  have e4s : sm hC hC' (e 4) := by
    rcases c.a4.c with q | q
    · exact f2 _ ((c.oe 4 (by omega)).1 q.1) (nE 4 (Or.inl q.1))
    · exact (f7 _ q.2.1).1
  have es : ∀ j, j < 5 → sm hC hC' (e j) := by
    intro j hj
    rcases (show j = 0 ∨ j = 1 ∨ j = 2 ∨ j = 3 ∨ j = 4 by omega) with rfl | rfl | rfl | rfl | rfl
    · exact e0s
    · exact e1s
    · exact e2s
    · exact e3s
    · exact e4s
  have kk : hK hC' = hK hC := by rw [← hh]; rfl
  have kn : hn hC' = hn hC := by rw [← hh]; rfl
  have tn' := r.tn.set (16 + s).toNat (v := v) (by omega)
  have rg' : RG (upT τ (16 + s).toNat v) := ⟨by rw [hτ 0 (by omega)]; exact c.rg.n,
    by rw [hτ 1 (by omega)]; exact c.rg.d,
    by rw [hτ 2 (by omega)]; exact c.rg.h,
    by rw [hτ 3 (by omega)]; exact c.rg.l,
    by rw [hτ 4 (by omega)]; exact c.rg.r,
    by rw [hτ 5 (by omega)]; exact c.rg.t,
    by rw [hτ 6 (by omega)]; exact c.rg.c,
    fun i hi => by rw [hτ _ (by omega)]; exact c.rg.cost i hi,
    fun i hi => by rw [hτ _ (by omega)]; exact c.rg.price i hi,
    fun i hi => by
          unfold upT
          split
          · omega
          · exact c.rg.late i hi,
    fun i hi => by rw [hτ _ (by omega)]; exact c.rg.first i hi,
    fun i hi => by rw [hτ 0 (by omega)] at hi; have := c.rg.n; rw [hτ (24 + i) (by omega), hτ 2 (by omega)]; exact c.rg.chg i hi,
    fun k hk => by rw [hτ 1 (by omega)] at hk; have := c.rg.d; rw [hτ (28 + 4 * k) (by omega), hτ (29 + 4 * k) (by omega), hτ (30 + 4 * k) (by omega), hτ (31 + 4 * k) (by omega), hτ 0 (by omega)]; exact c.rg.drv k hk,
    fun i hi => by rw [hτ _ (by omega)]; exact c.rg.lev i hi,
    fun i hi => by rw [hτ 4 (by omega)] at hi; have := c.rg.r; rw [hτ _ (by omega)]; exact c.rg.rise i hi,
    fun i hi => by rw [hτ _ (by omega)]; exact c.rg.wgt i hi,
    by rw [hτ 120 (by omega)]; exact c.rg.once,
    by rw [hτ 121 (by omega)]; exact c.rg.at,
    by rw [hτ 122 (by omega)]; exact c.rg.cap,
    by rw [hτ 123 (by omega)]; exact c.rg.told,
    by rw [hτ 124 (by omega)]; exact c.rg.byc,
    fun i hi => by rw [hτ _ (by omega)]; exact c.rg.brd i hi,
    fun i hi => by rw [hτ _ (by omega)]; exact c.rg.row i hi,
    fun k hk => by rw [hτ 6 (by omega)] at hk; have := c.rg.c; rw [hτ (3149 + 3 * k) (by omega), hτ (3150 + 3 * k) (by omega), hτ (3151 + 3 * k) (by omega)]; exact c.rg.chn k hk,
    tn'.g⟩
  have ne16 : ∀ k : Nat, ∀ w, k ≠ 1 → hI hC S k = w → hI hC' S k = w := fun k w hk q => by rw [← hh, hI_wI, if_neg (fun q => hk q.2)]; exact q
  have jS : hJ hC' S = hJ hC S := by rw [← hh]; rfl
  have rS : hR hC' S = hR hC S := by rw [← hh]; rfl
  have c' : CrP o 2 hC' x (upT τ (16 + s).toNat v) υ e el lw := ⟨by rw [sx0.1]; exact c.k,
    by rw [sx0.2.2.2.2]; exact c.r0,
    by rw [sx0.2.2.2.2]; exact c.r1,
    by rw [sx0.2.2.2.2]; exact c.r2,
    by rw [sx0.2.2.2.2]; exact c.r3,
    by rw [sx0.2.2.2.2]; exact c.r4,
    by rw [sx0.2.2.2.2]; exact c.r5,
    by rw [sx0.2.2.2.2]; exact c.r6,
    by rw [sx0.2.2.2.2]; exact c.r7,
    by rw [sx0.2.2.2.2]; exact c.r8,
    by rw [sx0.2.2.1, hτ 2 (by omega)]; exact c.i9,
    by rw [sx0.2.2.1, hτ 3 (by omega)]; exact c.i10,
    by rw [sx0.2.2.2.1, hυ 8 (by omega)]; exact c.j11,
    by rw [sx7.1]; exact c.kb,
    by rw [sx7.2.1]; exact c.lb,
    fun k hk => ⟨by rw [sx7.2.2.2.2]; exact (c.b k hk).1, by rw [(sk k hk).1]; exact (c.b k hk).2.1, by rw [(sk k hk).2.1]; exact (c.b k hk).2.2.1, fun s hs => by rw [(sk k hk).2.2.1, hτ _ (by omega)]; exact (c.b k hk).2.2.2 s hs⟩,
    by rw [sx264.1]; exact c.kl,
    by rw [sx264.2.1]; exact c.ll,
    fun i hi => by rw [sx264.2.2.1, hτ _ (by omega)]; exact c.l i hi,
    by rw [sx265.1]; exact c.kw,
    by rw [sx265.2.1]; exact c.lw_,
    fun s hs => ⟨by rw [sx265.2.2.2.2]; exact (c.w s hs).1, by rw [(sw s hs).1]; exact (c.w s hs).2.1, by rw [(sw s hs).2.1]; exact (c.w s hs).2.2.1, fun l hl => by rw [(sw s hs).2.2.1, hτ _ (by omega)]; exact (c.w s hs).2.2.2 l hl⟩,
    by rw [sl.1]; exact c.kL,
    by rw [sl.2.2.1, hτ 120 (by omega)]; exact c.L0,
    by rw [sl.2.2.1, hτ 121 (by omega)]; exact c.L1,
    by rw [sl.2.2.1, hτ 122 (by omega)]; exact c.L2,
    by rw [sl.2.2.1, hτ 123 (by omega)]; exact c.L3,
    by rw [sl.2.2.1, hτ 124 (by omega)]; exact c.L4,
    by rw [hτ 0 (by omega)]; exact c.a0.fr sx1 e0s h00,
    by rw [hτ 1 (by omega)]; exact c.a1.fr sx2 e1s h00,
    by rw [hτ 6 (by omega)]; exact c.a2.fr sx3 e2s h00,
    by rw [hτ 4 (by omega)]; exact c.a3.fr sx4 e3s h00,
    by rw [hτ 5 (by omega)]; exact c.a4.fr sx5 e4s h00,
    fun i hi => by
          rw [hτ 0 (by omega)] at hi
          have e16 : (16 + s).toNat = 16 + s.toNat := by omega
          refine ⟨by rw [e0s.2.2.2.2]; exact (c.st i hi).1, ?_⟩
          by_cases q : i = s.toNat
          · subst q
            rw [hS]
            obtain ⟨rl, r1, r2⟩ := st.r
            exact ⟨by rw [kk]; exact kS, by rw [hτ _ (by omega)]; exact ne16 0 _ (by omega) st.i0, by rw [← hh, hI_wI, if_pos ⟨rfl, rfl⟩, e16, upT_s], by rw [hτ _ (by omega)]; exact ne16 2 _ (by omega) st.i2, by rw [hτ _ (by omega)]; exact ne16 3 _ (by omega) st.i3, by rw [hτ _ (by omega)]; exact ne16 4 _ (by omega) st.i4, by rw [jS]; exact st.j5, by rw [jS]; exact st.j6, rl, by rw [rS]; exact r1, (r2.fr fim f6 (fun a q => (f7 a q).1) h00).cg (fun j hj => hτ _ (by omega))⟩
          · have sE : sm hC hC' (el 0 i) := f2 _ (c.os i hi).1 (fun w => q (c.ns i s.toNat hi (by omega) (w.trans hS.symm)))
            exact ((c.st i hi).2.fr fim f6 (fun a q => (f7 a q).1) h00 sE).cg (hτ _ (by omega)) (hτ _ (by omega)) (hτ _ (by omega)) (hτ _ (by omega)) (hτ _ (by omega)) rfl rfl (fun j hj => hτ _ (by omega)),
    fun k hk => by
    rw [hτ 1 (by omega)] at hk
    have hk6 := c.rg.d
    obtain ⟨k1, k2, k3, k4, k5, k6⟩ := c.dr k hk
    have sk := fim (el 1 k) (by rw [k2]; unfold imK; omega)
    exact ⟨by rw [e1s.2.2.2.2]; exact k1, by rw [sk.1]; exact k2, by rw [sk.2.2.1, hτ _ (by omega)]; exact k3, by rw [sk.2.2.1, hτ _ (by omega)]; exact k4, by rw [sk.2.2.1, hτ _ (by omega)]; exact k5, by rw [sk.2.2.1, hτ _ (by omega)]; exact k6⟩,
    fun k hk => by
    rw [hτ 6 (by omega)] at hk
    have hk6 := c.rg.c
    obtain ⟨k1, k2, k3, k4, k5⟩ := c.ch k hk
    have sk := fim (el 2 k) (by rw [k2]; unfold imK; omega)
    exact ⟨by rw [e2s.2.2.2.2]; exact k1, by rw [sk.1]; exact k2, by rw [sk.2.2.1, hτ _ (by omega)]; exact k3, by rw [sk.2.2.1, hτ _ (by omega)]; exact k4, by rw [sk.2.2.1, hτ _ (by omega)]; exact k5⟩,
    fun k hk => by
    rw [hτ 4 (by omega)] at hk
    have hk6 := c.rg.r
    obtain ⟨k1, k2, k3, k4, k5, k6, k7⟩ := c.ri k hk
    have sk := f6 _ k3
    refine ⟨by rw [e3s.2.2.2.2]; exact k1, by rw [sk.1.1]; exact k2, sk.2, by rw [hτ _ (by omega)]; exact k4, by rw [sk.1.2.1, hτ (61 + 3 * k) (by omega), hτ (62 + 3 * k) (by omega)]; exact k5, by rw [hτ (61 + 3 * k) (by omega), hτ (62 + 3 * k) (by omega)]; exact k6, fun j hj => ?_⟩
    rw [sk.1.2.1] at hj
    have hj3 : j < 3 := by rw [k5] at hj; split at hj <;> (try split at hj) <;> omega
    rw [sk.1.2.2.1, hτ _ (by omega)]
    exact k7 j hj,
    fun k hk => by
    rw [hτ 5 (by omega)] at hk
    have hk6 := c.rg.t
    have hk7 := c.rg.n
    obtain ⟨k1, k2, k3, k4, k5⟩ := c.to k hk
    have sk := f6 _ k3
    exact ⟨by rw [e4s.2.2.2.2]; exact k1, by rw [sk.1.1]; exact k2, sk.2, by rw [sk.1.2.1]; exact k4, fun s hs => by rw [hτ 0 (by omega)] at hs; rw [sk.1.2.2.1, hτ _ (by omega)]; exact k5 s hs⟩,
    rg',
    fun i h1 h2 => o2 _ (c.ox i h1 h2),
    fun j hj => by
    have ej := es j hj
    rw [ej.1]
    exact ⟨fun q => o2 _ ((c.oe j hj).1 q), fun q => (f7 _ q).2 ((c.oe j hj).2.1 q), (c.oe j hj).2.2⟩,
    fun j k hj hk q1 q2 => by
    rw [(es j hj).1] at q1
    exact c.ne j k hj hk q1 q2,
    fun i hi => by
    rw [hτ 0 (by omega)] at hi
    exact ⟨o2 _ (c.os i hi).1, (c.os i hi).2⟩,
    fun i j hi hj q => by
    rw [hτ 0 (by omega)] at hi hj
    exact c.ns i j hi hj q,
    fun s h1 h2 => by rw [hτ 0 (by omega)] at h1; exact c.zz s h1 h2⟩
  refine r.upd (fun a => a = S) hM s0 (fun a _ => by rw [kk]) (by omega) (fun a q => by rw [kk]; exact r.ho a (by omega)) (fun a q => by rw [kk, (r.ho a (by omega)).1]; omega) (fun _ _ => rfl) c' tn' r.tj ?_ rfl ?_ ?_ ?_ ?_ rfl ?_ ?_ ?_ rfl rfl
  · exact (sm_wI (by omega)).2.2.1
  · exact (sm_wI (by omega)).2.2.1
  · exact (sm_wI (by omega)).2.2.1
  · exact (sm_wI (by omega)).2.2.1
  · exact (sm_wI (by omega)).2.2.1
  · rw [hI_wI, if_neg (by omega)]
  · rw [hI_wI, if_neg (by omega)]
  · rw [hI_wI, if_neg (by omega)]
