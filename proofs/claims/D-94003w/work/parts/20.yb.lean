/-! PURE YB: an hour on both sides -/
set_option maxRecDepth 100000
theorem byte_id {v : Int} (h : -128 ≤ v ∧ v ≤ 127) : Int8.toInt32 (Int32.toInt8 (iI v)) = iI v := by
  apply Int32.toInt_inj.1
  rw [Int8.toInt_toInt32, Int32.toInt_toInt8, i_toInt (by omega), Int.bmod_eq_of_le (by omega) (by omega)]
theorem mul_b {a b : Int} (h : 0 ≤ a ∧ a ≤ 99) (k : -99 ≤ b ∧ b ≤ 99) : -9801 ≤ a * b ∧ a * b ≤ 9801 := by
  have h1 := Int.mul_le_mul_of_nonneg_left k.2 h.1
  have h2 := Int.mul_le_mul_of_nonneg_left k.1 h.1
  omega
theorem j_mul (a b : Int) : jI a * jI b = jI (a * b) := (Int64.ofInt_mul a b).symm
theorem RL.hinc {o : Nat → Nat} {hC hT : AH} {z m x : Nat} {τ : Nat → Int} {υ : Nat → Int64} {e : Nat → Nat} {el : Nat → Nat → Nat} {lw : Nat} (r : RL o hC hT z m x τ υ e el lw) (h3 : τ 2 < 3000) : RL o (wI hC x 9 (iI (τ 2 + 1))) (wI hT (m + 1) 2 (iI (τ 2 + 1))) z m x (upT τ 2 (τ 2 + 1)) υ e el lw := by
  have c := r.c
  have hn4 := c.rg.n
  have hh3 := c.rg.h
  have ox : o x = 2 := c.ox 0 (by omega) (by omega)
  generalize hh : wI hC x 9 (iI (τ 2 + 1)) = hC'
  have kk : hK hC' = hK hC := by rw [← hh]; rfl
  have kR : hR hC' = hR hC := by rw [← hh]; rfl
  have kn : hn hC' = hn hC := by rw [← hh]; rfl
  have s1 : ∀ a, a < hn hC → ¬ (fun a => a = x) a → sm hC hC' a := fun a _ q => by rw [← hh]; exact sm_wI q
  have hM : ∀ a, (fun a => a = x) a → o a = 2 ∧ ¬ imK (hK hC a) ∧ hK hC a ≠ 120 := fun a q => by
    have q : a = x := q
    rw [q, c.k]
    exact ⟨ox, by unfold imK; omega, by omega⟩
  have fs := RL.keep r (o' := o) (fun a => a = x) hM s1 (fun _ _ => rfl)
  have hτ : ∀ i : Nat, i ≠ 2 → upT τ 2 (τ 2 + 1) i = τ i := fun i q => upT_o q
  have hυ : ∀ i : Nat, i < 9 → υ i = υ i := fun _ _ => rfl
  have nE : ∀ j, j < 5 → hK hC (e j) = 108 → ¬ (e j = x) := fun j hj q w => by
    have := (c.oe j hj).2.2
    omega
  have tn' := r.tn.set 2 (v := τ 2 + 1) (by omega)
  obtain ⟨fim, f6, f7, h00, f2, o2⟩ := fs
  have sx1 : sm hC hC' (x + 1) := f2 _ (c.ox 1 (by omega) (by omega)) (by omega)
  have sx2 : sm hC hC' (x + 2) := f2 _ (c.ox 2 (by omega) (by omega)) (by omega)
  have sx3 : sm hC hC' (x + 3) := f2 _ (c.ox 3 (by omega) (by omega)) (by omega)
  have sx4 : sm hC hC' (x + 4) := f2 _ (c.ox 4 (by omega) (by omega)) (by omega)
  have sx5 : sm hC hC' (x + 5) := f2 _ (c.ox 5 (by omega) (by omega)) (by omega)
  have sx7 : sm hC hC' (x + 7) := f2 _ (c.ox 7 (by omega) (by omega)) (by omega)
  have sx264 : sm hC hC' (x + 264) := f2 _ (c.ox 264 (by omega) (by omega)) (by omega)
  have sx265 : sm hC hC' (x + 265) := f2 _ (c.ox 265 (by omega) (by omega)) (by omega)
  have sk : ∀ k, k < 256 → sm hC hC' (x + 8 + k) := fun k hk => by
    have := f2 (x + (8 + k)) (c.ox (8 + k) (by omega) (by omega)) (by omega)
    rw [show x + (8 + k) = x + 8 + k by omega] at this
    exact this
  have sw : ∀ k, k < 2 → sm hC hC' (x + 266 + k) := fun k hk => by
    have := f2 (x + (266 + k)) (c.ox (266 + k) (by omega) (by omega)) (by omega)
    rw [show x + (266 + k) = x + 266 + k by omega] at this
    exact this
  have sl : sm hC hC' lw := fim lw (by rw [c.kL]; unfold imK; omega)
  have e0s : sm hC hC' (e 0) := by
    rcases c.a0.c with q | q
    · exact f2 _ ((c.oe 0 (by omega)).1 q.1) (nE 0 (by omega) q.1)
    · exact (f7 _ q.2.1).1
  have e1s : sm hC hC' (e 1) := by
    rcases c.a1.c with q | q
    · exact f2 _ ((c.oe 1 (by omega)).1 q.1) (nE 1 (by omega) q.1)
    · exact (f7 _ q.2.1).1
  have e2s : sm hC hC' (e 2) := by
    rcases c.a2.c with q | q
    · exact f2 _ ((c.oe 2 (by omega)).1 q.1) (nE 2 (by omega) q.1)
    · exact (f7 _ q.2.1).1
  have e3s : sm hC hC' (e 3) := by
    rcases c.a3.c with q | q
    · exact f2 _ ((c.oe 3 (by omega)).1 q.1) (nE 3 (by omega) q.1)
    · exact (f7 _ q.2.1).1
  have e4s : sm hC hC' (e 4) := by
    rcases c.a4.c with q | q
    · exact f2 _ ((c.oe 4 (by omega)).1 q.1) (nE 4 (by omega) q.1)
    · exact (f7 _ q.2.1).1
  have es : ∀ j, j < 5 → sm hC hC' (e j) := by
    intro j hj
    rcases (show j = 0 ∨ j = 1 ∨ j = 2 ∨ j = 3 ∨ j = 4 by omega) with rfl | rfl | rfl | rfl | rfl
    · exact e0s
    · exact e1s
    · exact e2s
    · exact e3s
    · exact e4s
  have sst : ∀ i : Nat, (i : Int) < τ 0 → sm hC hC' (el 0 i) := fun i hi => f2 _ (c.os i hi).1 (by have := (c.os i hi).2; omega)
  have rg' : RG (upT τ 2 (τ 2 + 1)) := ⟨by rw [hτ 0 (by omega)]; exact c.rg.n,
    by rw [hτ 1 (by omega)]; exact c.rg.d,
    by rw [upT_s]; omega,
    by rw [hτ 3 (by omega)]; exact c.rg.l,
    by rw [hτ 4 (by omega)]; exact c.rg.r,
    by rw [hτ 5 (by omega)]; exact c.rg.t,
    by rw [hτ 6 (by omega)]; exact c.rg.c,
    fun i hi => by rw [hτ _ (by omega)]; exact c.rg.cost i hi,
    fun i hi => by rw [hτ _ (by omega)]; exact c.rg.price i hi,
    fun i hi => by rw [hτ _ (by omega)]; exact c.rg.late i hi,
    fun i hi => by rw [hτ _ (by omega)]; exact c.rg.first i hi,
    fun i hi => by
          rw [hτ 0 (by omega)] at hi
          rw [hτ _ (by omega), upT_s]
          have := c.rg.chg i hi
          omega,
    fun k hk => by rw [hτ 1 (by omega)] at hk; have := c.rg.d; rw [hτ (28 + 4 * k) (by omega), hτ (29 + 4 * k) (by omega), hτ (30 + 4 * k) (by omega), hτ (31 + 4 * k) (by omega), hτ 0 (by omega)]; exact c.rg.drv k hk,
    fun i hi => by rw [hτ _ (by omega)]; exact c.rg.lev i hi,
    fun i hi => by rw [hτ 4 (by omega)] at hi; have := c.rg.r; rw [hτ _ (by omega)]; exact c.rg.rise i hi,
    fun i hi => by rw [hτ _ (by omega)]; exact c.rg.wgt i hi,
    by rw [hτ 120 (by omega)]; exact c.rg.once,
    by rw [hτ 121 (by omega)]; exact c.rg.at,
    by rw [hτ 122 (by omega)]; exact c.rg.cap,
    by rw [hτ 123 (by omega)]; exact c.rg.told,
    by rw [hτ 124 (by omega)]; exact c.rg.byc,
    fun i hi => by rw [hτ _ (by omega)]; exact c.rg.brd i hi,
    fun i hi => by rw [hτ _ (by omega)]; exact c.rg.row i hi,
    fun k hk => by rw [hτ 6 (by omega)] at hk; have := c.rg.c; rw [hτ (3149 + 3 * k) (by omega), hτ (3150 + 3 * k) (by omega), hτ (3151 + 3 * k) (by omega)]; exact c.rg.chn k hk,
    tn'.g⟩
  have c' : CrP o 2 hC' x (upT τ 2 (τ 2 + 1)) υ e el lw := ⟨by rw [kk]; exact c.k,
    by rw [kR]; exact c.r0,
    by rw [kR]; exact c.r1,
    by rw [kR]; exact c.r2,
    by rw [kR]; exact c.r3,
    by rw [kR]; exact c.r4,
    by rw [kR]; exact c.r5,
    by rw [kR]; exact c.r6,
    by rw [kR]; exact c.r7,
    by rw [kR]; exact c.r8,
    by rw [← hh, hI_wI, if_pos ⟨rfl, rfl⟩, upT_s],
    by rw [← hh, hI_wI, if_neg (by omega), hτ 3 (by omega)]; exact c.i10,
    by rw [← hh]; exact c.j11,
    by rw [sx7.1]; exact c.kb,
    by rw [sx7.2.1]; exact c.lb,
    fun k hk => ⟨by rw [sx7.2.2.2.2]; exact (c.b k hk).1, by rw [(sk k hk).1]; exact (c.b k hk).2.1, by rw [(sk k hk).2.1]; exact (c.b k hk).2.2.1, fun s hs => by rw [(sk k hk).2.2.1, hτ _ (by omega)]; exact (c.b k hk).2.2.2 s hs⟩,
    by rw [sx264.1]; exact c.kl,
    by rw [sx264.2.1]; exact c.ll,
    fun i hi => by rw [sx264.2.2.1, hτ _ (by omega)]; exact c.l i hi,
    by rw [sx265.1]; exact c.kw,
    by rw [sx265.2.1]; exact c.lw_,
    fun s hs => ⟨by rw [sx265.2.2.2.2]; exact (c.w s hs).1, by rw [(sw s hs).1]; exact (c.w s hs).2.1, by rw [(sw s hs).2.1]; exact (c.w s hs).2.2.1, fun l hl => by rw [(sw s hs).2.2.1, hτ _ (by omega)]; exact (c.w s hs).2.2.2 l hl⟩,
    by rw [sl.1]; exact c.kL,
    by rw [sl.2.2.1, hτ 120 (by omega)]; exact c.L0,
    by rw [sl.2.2.1, hτ 121 (by omega)]; exact c.L1,
    by rw [sl.2.2.1, hτ 122 (by omega)]; exact c.L2,
    by rw [sl.2.2.1, hτ 123 (by omega)]; exact c.L3,
    by rw [sl.2.2.1, hτ 124 (by omega)]; exact c.L4,
    by rw [hτ 0 (by omega)]; exact c.a0.fr sx1 e0s h00,
    by rw [hτ 1 (by omega)]; exact c.a1.fr sx2 e1s h00,
    by rw [hτ 6 (by omega)]; exact c.a2.fr sx3 e2s h00,
    by rw [hτ 4 (by omega)]; exact c.a3.fr sx4 e3s h00,
    by rw [hτ 5 (by omega)]; exact c.a4.fr sx5 e4s h00,
    fun i hi => by
    rw [hτ 0 (by omega)] at hi
    have hi4 := c.rg.n
    exact ⟨by rw [e0s.2.2.2.2]; exact (c.st i hi).1, ((c.st i hi).2.fr fim f6 (fun a q => (f7 a q).1) h00 (sst i hi)).cg (hτ _ (by omega)) (hτ _ (by omega)) (hτ _ (by omega)) (hτ _ (by omega)) (hτ _ (by omega)) (hυ _ (by omega)) (hυ _ (by omega)) (fun j hj => hτ _ (by omega))⟩,
    fun k hk => by
    rw [hτ 1 (by omega)] at hk
    have hk6 := c.rg.d
    obtain ⟨k1, k2, k3, k4, k5, k6⟩ := c.dr k hk
    have sk := fim (el 1 k) (by rw [k2]; unfold imK; omega)
    exact ⟨by rw [e1s.2.2.2.2]; exact k1, by rw [sk.1]; exact k2, by rw [sk.2.2.1, hτ _ (by omega)]; exact k3, by rw [sk.2.2.1, hτ _ (by omega)]; exact k4, by rw [sk.2.2.1, hτ _ (by omega)]; exact k5, by rw [sk.2.2.1, hτ _ (by omega)]; exact k6⟩,
    fun k hk => by
    rw [hτ 6 (by omega)] at hk
    have hk6 := c.rg.c
    obtain ⟨k1, k2, k3, k4, k5⟩ := c.ch k hk
    have sk := fim (el 2 k) (by rw [k2]; unfold imK; omega)
    exact ⟨by rw [e2s.2.2.2.2]; exact k1, by rw [sk.1]; exact k2, by rw [sk.2.2.1, hτ _ (by omega)]; exact k3, by rw [sk.2.2.1, hτ _ (by omega)]; exact k4, by rw [sk.2.2.1, hτ _ (by omega)]; exact k5⟩,
    fun k hk => by
    rw [hτ 4 (by omega)] at hk
    have hk6 := c.rg.r
    obtain ⟨k1, k2, k3, k4, k5, k6, k7⟩ := c.ri k hk
    have sk := f6 _ k3
    refine ⟨by rw [e3s.2.2.2.2]; exact k1, by rw [sk.1.1]; exact k2, sk.2, by rw [hτ _ (by omega)]; exact k4, by rw [sk.1.2.1, hτ (61 + 3 * k) (by omega), hτ (62 + 3 * k) (by omega)]; exact k5, by rw [hτ (61 + 3 * k) (by omega), hτ (62 + 3 * k) (by omega)]; exact k6, fun j hj => ?_⟩
    rw [sk.1.2.1] at hj
    have hj3 : j < 3 := by rw [k5] at hj; split at hj <;> (try split at hj) <;> omega
    rw [sk.1.2.2.1, hτ _ (by omega)]
    exact k7 j hj,
    fun k hk => by
    rw [hτ 5 (by omega)] at hk
    have hk6 := c.rg.t
    have hk7 := c.rg.n
    obtain ⟨k1, k2, k3, k4, k5⟩ := c.to k hk
    have sk := f6 _ k3
    exact ⟨by rw [e4s.2.2.2.2]; exact k1, by rw [sk.1.1]; exact k2, sk.2, by rw [sk.1.2.1]; exact k4, fun s hs => by rw [hτ 0 (by omega)] at hs; rw [sk.1.2.2.1, hτ _ (by omega)]; exact k5 s hs⟩,
    rg',
    fun i h1 h2 => o2 _ (c.ox i h1 h2),
    fun j hj => by
    have ej := es j hj
    rw [ej.1]
    exact ⟨fun q => o2 _ ((c.oe j hj).1 q), fun q => (f7 _ q).2 ((c.oe j hj).2.1 q), (c.oe j hj).2.2⟩,
    fun j k hj hk q1 q2 => by
    rw [(es j hj).1] at q1
    exact c.ne j k hj hk q1 q2,
    fun i hi => by
    rw [hτ 0 (by omega)] at hi
    exact ⟨o2 _ (c.os i hi).1, (c.os i hi).2⟩,
    fun i j hi hj q => by
    rw [hτ 0 (by omega)] at hi hj
    exact c.ns i j hi hj q,
    fun s h1 h2 => by rw [hτ 0 (by omega)] at h1; exact c.zz s h1 h2⟩
  exact r.upd (fun a => a = x) hM s1 (fun a _ => by rw [kk]) (by omega) (fun a q => by rw [kk]; exact r.ho a (by omega)) (fun a q => by rw [kk, (r.ho a (by omega)).1]; omega) (fun _ _ => rfl) c' tn' r.tj (sm_wI (by omega)).2.2.1 rfl (sm_wI (by omega)).2.2.1 (sm_wI (by omega)).2.2.1 (sm_wI (by omega)).2.2.1 (sm_wI (by omega)).2.2.1 rfl (by rw [hI_wI, if_neg (by omega)]) (by rw [hI_wI, if_neg (by omega)]) (by rw [hI_wI, if_neg (by omega)]) rfl rfl
/-- the state inside an hour: both sides agree, nothing of the other side was touched -/
def HS (o : Nat → Nat) (hC hT : AH) (z m x : Nat) (e : Nat → Nat) (el : Nat → Nat → Nat) (lw : Nat) (τ0 : Nat → Int) (g gT : AH) (τ : Nat → Int) (υ : Nat → Int64) : Prop := RL o g gT z m x τ υ e el lw ∧ tf (fun a => ¬ (z + 474 ≤ a ∧ a ≤ z + 495)) hC g ∧ tf (fun a => m ≤ a ∧ a ≤ m + 20) hT gT ∧ hI gT m 5 = hI hT m 5 ∧ hI gT m 23 = iI 0 ∧ τ 0 = τ0 0 ∧ τ 1 = τ0 1 ∧ τ 2 = τ0 2
/-- an hour's end -/
def HE (o : Nat → Nat) (hC hT : AH) (z m x : Nat) (e : Nat → Nat) (el : Nat → Nat → Nat) (lw : Nat) (τ0 : Nat → Int) (g gT : AH) : Prop := ∃ τ υ, RL o g gT z m x τ υ e el lw ∧ tf (fun a => ¬ (z + 474 ≤ a ∧ a ≤ z + 495)) hC g ∧ tf (fun a => m ≤ a ∧ a ≤ m + 20) hT gT ∧ hI gT m 5 = hI hT m 5 ∧ τ 2 = τ0 2 + 1
theorem hour3 {o : Nat → Nat} {hC hT : AH} {z m x : Nat} {e : Nat → Nat} {el : Nat → Nat → Nat} {lw : Nat} {τ0 : Nat → Int} {g gT : AH} {τ : Nat → Int} {υ : Nat → Int64} (H : HS o hC hT z m x e el lw τ0 g gT τ υ) (h3 : τ0 2 < 3000) {p : Nat → Int} (p1 : ∀ i : Nat, (i : Int) < τ 0 → 0 ≤ p i ∧ p i ≤ 99) (p2 : ∀ i : Nat, (i : Int) < τ 0 → hI g (z + 274) i = iI (p i)) (p3 : ∀ i : Nat, (i : Int) < τ 0 → hI gT (m + 10) i = iI (p i)) : Ok2 (G_X1_hour_129 g z (iI 0)) (G_X8_hour_133 gT m (iI 0)) (HE o hC hT z m x e el lw τ0) := by
  unfold G_X1_hour_129 G_X8_hour_133
  have hd6 := H.1.c.rg.d
  refine lp_ok2 (fun s t j => ∃ (g gT : AH) (υ : Nat → Int64) (k : Int), s = (g, z, iI k) ∧ t = (gT, m, iI k) ∧ 0 ≤ k ∧ k ≤ τ 1 ∧ j = (τ 1 - k).toNat ∧ HS o hC hT z m x e el lw τ0 g gT τ υ ∧ (∀ i : Nat, (i : Int) < τ 0 → hI g (z + 274) i = iI (p i)) ∧ ∀ i : Nat, (i : Int) < τ 0 → hI gT (m + 10) i = iI (p i)) ?_ fuel (τ 1).toNat _ _ ⟨g, gT, υ, 0, rfl, rfl, by omega, by omega, by simp, H, p2, p3⟩ (lt_fuel (by omega))
  clear H p2 p3
  rintro f1 f2 s t j ⟨g, gT, υ, k, rfl, rfl, h1, h2, rfl, H, p2, p3⟩ ih
  obtain ⟨r, T1, T2, H4, H5, H6, H7, H8⟩ := H
  have c := r.c
  have cs := r.cs
  have hz := r.hz
  have hm := r.m
  have hn4 := c.rg.n
  have tn := r.tn
  have ts := tn.s
  have ti := tn.i
  have hnz := r.hnz
  unfold L_X1_hour_129 B_X1_hour_129 L_X8_hour_133 B_X8_hour_133
  by_cases q : τ 1 ≤ k
  · unfold B_X1_hour_263 B_X8_hour_231
    simp (disch := omega) only [i_lit, i_neg, i_add, i_sub, i_mul, i_ofNat, i_div, i_le, i_lt, i_eq, i_ix, i_inb, i_max, i_min, e_rem, j_lit, j_i, Int.reduceToNat, Int.reduceAdd, Int.reduceSub, Int.reduceMul, Int.reduceNeg, Int.reduceLT, Int.reduceLE, Int.reduceEq, gd_t, gd_T, bd_t, lh_t, on_s, on_n, ec_l, ec_r, if_true, if_false, true_and, and_true, false_and, and_false, true_or, or_true, false_or, or_false, Bool.false_eq_true, b2i_0, b2i_1, bl_0, bl_1, bl_b2, not_true_eq_false, not_false_eq_true, cs.k, hz, c.k, c.r1, c.a1.k, size_eq c.a1, q, c.i9, ts.k, ts.r1, ts.k1, ts.l1, ts.r2, ts.k2, ts.l2, ts.r3, ts.k3, ts.l3, ts.r4, ts.k4, ts.l4, ts.r5, ts.k5, ts.l5, ts.r6, ts.k6, ts.l6, ts.r7, ts.k7, ts.l7, ts.r8, ts.k8, ts.l8, ts.r9, ts.k9, ts.l9, ts.r10, ts.k10, ts.l10, ts.r11, ts.k11, ts.l11, ts.r12, ts.k12, ts.l12, ts.r13, ts.k13, ts.l13, ts.r14, ts.k14, ts.l14, ts.r15, ts.k15, ts.l15, ts.r16, ts.k16, ts.l16, ts.r17, ts.k17, ts.l17, ts.r18, ts.k18, ts.l18, ts.r19, ts.k19, ts.l19, ts.r20, ts.k20, ts.l20, ti]
    refine Ok2.some ⟨_, υ, r.hinc (by omega), T1.trans (tf_wI (fun w => ?_)), T2.trans (tf_wI (by omega)), by rw [hI_wI, if_neg (by omega)]; exact H4, by rw [upT_s]; omega⟩
    have ox : o x = 2 := c.ox 0 (by omega) (by omega)
    have := r.ow x (by omega)
    omega
  · obtain ⟨d1, d2, d3, d4, d5, d6⟩ := c.dr k.toNat (by omega)
    have dg := get_eq c.a1 (i := k) (by omega) d1
    obtain ⟨n1, -, -, -⟩ := c.rg.drv k.toNat (by omega)
    have e28 : (28 + 4 * k).toNat = 28 + 4 * k.toNat := by omega
    have e4 := goesTo_eq c cs hz (P := z + 274) (p := p) cs.k274 cs.l274 p2 p1 (k := k.toNat) (by omega)
    have e5 := where_eq tn c.rg (p := p) p3 p1 (k := k.toNat) (by omega)
    rw [show ((k.toNat : Nat) : Int) = k by omega] at e5
    have wr := whS_rng (p := p) c.rg (k := k.toNat) (by omega)
    generalize hw : whS τ p k.toNat = w at e4 e5 wr
    obtain ⟨k1, k2⟩ := stat_at c (s := w) wr
    have pw := p1 w.toNat (by omega)
    have p2w := p2 w.toNat (by omega)
    have p3w := p3 w.toNat (by omega)
    have cw := c.rg.cost w.toNat (by omega)
    have i0 := k2.i0
    have e8 : 8 + w.toNat = (8 + w).toNat := by omega
    rw [e8] at i0 cw
    have oS := (c.os w.toNat (by omega)).1
    have xS := (c.os w.toNat (by omega)).2
    have ox : o x = 2 := c.ox 0 (by omega) (by omega)
    have j5 := k2.j5
    have j6 := k2.j6
    have tj := r.tj
    generalize hS : el 0 w.toNat = S at k1 k2 i0 oS xS j5 j6
    have nS : ¬ (z + 269 ≤ S ∧ S ≤ z + 495) := fun u => by have := r.ow S (by omega); omega
    have nx : ¬ (z + 269 ≤ x ∧ x ≤ z + 495) := fun u => by have := r.ow x (by omega); omega
    have b1 : -9801 ≤ τ (28 + 4 * k.toNat) * (p w.toNat - τ (8 + w).toNat) ∧ τ (28 + 4 * k.toNat) * (p w.toNat - τ (8 + w).toNat) ≤ 9801  := mul_b (by omega) (by omega)
    have b2 : -9801 ≤ τ (28 + 4 * k.toNat) * p w.toNat ∧ τ (28 + 4 * k.toNat) * p w.toNat ≤ 9801 := mul_b (by omega) (by omega)
    simp (disch := omega) only [i_lit, i_neg, i_add, i_sub, i_mul, i_ofNat, i_div, i_le, i_lt, i_eq, i_ix, i_inb, i_max, i_min, e_rem, j_lit, j_i, Int.reduceToNat, Int.reduceAdd, Int.reduceSub, Int.reduceMul, Int.reduceNeg, Int.reduceLT, Int.reduceLE, Int.reduceEq, gd_t, gd_T, bd_t, lh_t, on_s, on_n, ec_l, ec_r, if_true, if_false, true_and, and_true, false_and, and_false, true_or, or_true, false_or, or_false, Bool.false_eq_true, b2i_0, b2i_1, bl_0, bl_1, bl_b2, not_true_eq_false, not_false_eq_true, cs.k, hz, c.k, c.r1, c.a1.k, size_eq c.a1, q, dg, d2, cs.r274, e4, c.r0, c.a0.k, k1, k2.k, cs.k274, cs.l274, d3, p2w, i0, hK_wJ, hL_wJ, hR_wJ, hI_wJ, j_mul, ts.k, ts.r1, ts.k1, ts.l1, ts.r2, ts.k2, ts.l2, ts.r3, ts.k3, ts.l3, ts.r4, ts.k4, ts.l4, ts.r5, ts.k5, ts.l5, ts.r6, ts.k6, ts.l6, ts.r7, ts.k7, ts.l7, ts.r8, ts.k8, ts.l8, ts.r9, ts.k9, ts.l9, ts.r10, ts.k10, ts.l10, ts.r11, ts.k11, ts.l11, ts.r12, ts.k12, ts.l12, ts.r13, ts.k13, ts.l13, ts.r14, ts.k14, ts.l14, ts.r15, ts.k15, ts.l15, ts.r16, ts.k16, ts.l16, ts.r17, ts.k17, ts.l17, ts.r18, ts.k18, ts.l18, ts.r19, ts.k19, ts.l19, ts.r20, ts.k20, ts.l20, ti, e5, e28, p3w]
    generalize jI (τ (28 + 4 * k.toNat) * (p w.toNat - τ (8 + w).toNat)) = A
    generalize jI (τ (28 + 4 * k.toNat) * p w.toNat) = D
    generalize jI (τ (28 + 4 * k.toNat)) = B
    have e4w : (4 + w).toNat = 4 + w.toNat := by omega
    rw [e4w]
    generalize hG : wJ (wJ (wJ g S 5 (hJ g S 5 + A)) S 6 (hJ (wJ g S 5 (hJ g S 5 + A)) S 6 + B)) x 11 (hJ (wJ (wJ g S 5 (hJ g S 5 + A)) S 6 (hJ (wJ g S 5 (hJ g S 5 + A)) S 6 + B)) x 11 + D) = G
    generalize hGT : wJ (wJ (wJ gT (m + 3) w.toNat (hJ gT (m + 3) w.toNat + A)) (m + 3) (4 + w.toNat) (hJ (wJ gT (m + 3) w.toNat (hJ gT (m + 3) w.toNat + A)) (m + 3) (4 + w.toNat) + B)) (m + 3) 8 (hJ (wJ (wJ gT (m + 3) w.toNat (hJ gT (m + 3) w.toNat + A)) (m + 3) (4 + w.toNat) (hJ (wJ gT (m + 3) w.toNat (hJ gT (m + 3) w.toNat + A)) (m + 3) (4 + w.toNat) + B)) (m + 3) 8 + D) = GT
    have neSx : S ≠ x := by omega
    have t3 : tf (fun a => a = m + 3) gT GT := by rw [← hGT]; exact tf_wj (tf_wj (tf_wJ rfl) rfl) rfl
    have c3 : tf (fun a => a = S ∨ a = x) g G := by rw [← hG]; exact tf_wj (tf_wj (tf_wJ (Or.inl rfl)) (Or.inl rfl)) (Or.inr rfl)
    have gI : hI G = hI g := by rw [← hG]; rfl
    have a5 : hJ G S 5 = hJ g S 5 + A := by rw [← hG, hJ_wJ, if_neg (by omega), hJ_wJ, if_neg (by omega), hJ_wJ, if_pos ⟨rfl, rfl⟩]
    have a6 : hJ G S 6 = hJ g S 6 + B := by rw [← hG, hJ_wJ, if_neg (by omega), hJ_wJ, if_pos ⟨rfl, rfl⟩, hJ_wJ, if_neg (by omega)]
    have a11 : hJ G x 11 = hJ g x 11 + D := by rw [← hG, hJ_wJ, if_pos ⟨rfl, rfl⟩, hJ_wJ, if_neg (by omega), hJ_wJ, if_neg (by omega)]
    have b5 : hJ GT (m + 3) w.toNat = hJ gT (m + 3) w.toNat + A := by rw [← hGT, hJ_wJ, if_neg (by omega), hJ_wJ, if_neg (by omega), hJ_wJ, if_pos ⟨rfl, rfl⟩]
    have b6 : hJ GT (m + 3) (4 + w.toNat) = hJ gT (m + 3) (4 + w.toNat) + B := by rw [← hGT, hJ_wJ, if_neg (by omega), hJ_wJ, if_pos ⟨rfl, rfl⟩, hJ_wJ, if_neg (by omega)]
    have b11 : hJ GT (m + 3) 8 = hJ gT (m + 3) 8 + D := by rw [← hGT, hJ_wJ, if_pos ⟨rfl, rfl⟩, hJ_wJ, if_neg (by omega), hJ_wJ, if_neg (by omega)]
    have bo : ∀ i, i ≠ w.toNat ∧ i ≠ 4 + w.toNat ∧ i ≠ 8 → hJ GT (m + 3) i = hJ gT (m + 3) i := fun i hi => by rw [← hGT, hJ_wJ, if_neg (by omega), hJ_wJ, if_neg (by omega), hJ_wJ, if_neg (by omega)]
    have rr : RL o G GT z m x τ (hJ GT (m + 3)) e el lw := by
      refine r.hsum (s := w.toNat) (by omega) (fun i hi => by rw [bo i hi, tj]) c3.1 c3.K c3.R ?_ ?_ (by rw [gI]) ?_ ?_ ?_ t3 (fun _ => rfl)
      · intro a ha hx
        rw [hS] at ha
        exact ⟨by rw [c3.K], by rw [c3.L], c3.I (by omega), c3.J (by omega), by rw [c3.R]⟩
      · rw [gI]
      · rw [hS, a5, b5, j5, tj]
      · rw [hS, a6, b6, j6, tj]
      · rw [a11, b11, c.j11, tj]
    refine ih _ _ (τ 1 - (k + 1)).toNat (by omega) ⟨G, GT, _, k + 1, rfl, rfl, by omega, by omega, rfl, ⟨rr, T1.trans (c3.mono (fun a u => by omega)), T2.trans (t3.mono (fun a u => by omega)), by rw [t3.I (by omega)]; exact H4, by rw [t3.I (by omega)]; exact H5, H6, H7, H8⟩, fun i hi => by rw [gI]; exact p2 i hi, fun i hi => by rw [t3.I (by omega)]; exact p3 i hi⟩
