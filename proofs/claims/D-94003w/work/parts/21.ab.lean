/-! PURE YG: driver -/
set_option maxRecDepth 100000
theorem one_shl : ∀ n : Nat, n ≤ 4 → (iI 1) <<< ((iI (n : Int)) &&& iI 31) = iI ((2 ^ n : Nat) : Int) := by decide
theorem init10 {h : AH} {a : Nat} (k : hK h a = 10) (x1 x2 x3 x4 : Int32) : F_X10_init h a x1 x2 x3 x4 = some (wI (wI (wI (wI h a 0 x1) a 1 x2) a 2 x3) a 3 x4) := by
  unfold F_X10_init B_X10_init_9 B_X10_init_14 B_X10_init_19
  simp (disch := omega) only [i_lit, i_neg, i_add, i_sub, i_mul, i_ofNat, i_div, i_le, i_lt, i_eq, i_ix, i_inb, i_max, i_min, e_rem, j_lit, j_i, Int.reduceToNat, Int.reduceAdd, Int.reduceSub, Int.reduceMul, Int.reduceNeg, Int.reduceLT, Int.reduceLE, Int.reduceEq, gd_t, gd_T, ↓bd_m, ↓lh_t, ↓on_m, ↓ec_m, ↓reduceIte, if_true, if_false, true_and, and_true, false_and, and_false, true_or, or_true, false_or, or_false, Bool.false_eq_true, b2i_0, b2i_1, bl_0, bl_1, bl_b2, not_true_eq_false, not_false_eq_true, k, hK_wI]
theorem Ok2.fwT {α β : Type} {P : Nat → Prop} {X : Option α} {hT g : AH} {m k : Nat} {τ : Nat → Int} {v : Int} {K : AH → Option β} {R : α → β → Prop} (t : TN g m τ) (hv : i31 v) (T : tf P hT g) (hP : P (m + 1)) (H : ∀ g', TN g' m (upT τ k v) → tf P hT g' → (∀ j, hI g' m j = hI g m j) → Ok2 X (K g') R) : Ok2 X (lh (wI g (m + 1) k (iI v)) K) R :=
  H _ (t.set k hv) (T.trans (tf_wI hP)) (fun j => by rw [hI_wI, if_neg (by omega)])
theorem RL.bad {z m : Nat} {o : Nat → Nat} {hC hT : AH} {x : Nat} {τ : Nat → Int} {υ : Nat → Int64} {e : Nat → Nat} {el : Nat → Nat → Nat} {lw : Nat} (r : RL o hC hT z m x τ υ e el lw) (k : Int32) (hk : k ≠ 0) : VI z m (k, nw hC 0 0 6) (iI 0, wI (wI hT m 5 (iI 0)) m 5 k) ∧ FC z hC (nw hC 0 0 6) ∧ FT m hT (wI (wI hT m 5 (iI 0)) m 5 k) ∧ Rx (nw hC 0 0 6) (wI (wI hT m 5 (iI 0)) m 5 k) z m :=
  ⟨⟨by show k = _; rw [hI_wI, if_pos ⟨rfl, rfl⟩], fun w => absurd w hk⟩, FC.nw0 r, (FT.thr _ _ _ _).trans (FT.thr _ _ _ _), ⟨o, x, τ, υ, e, el, lw, ((r.nw0 0 6).thr 5 (by omega) _).thr 5 (by omega) _⟩⟩
theorem RL.outk {o : Nat → Nat} {hC hT : AH} {z m x : Nat} {τ : Nat → Int} {υ : Nat → Int64} {e : Nat → Nat} {el : Nat → Nat → Nat} {lw : Nat} (r : RL o hC hT z m x τ υ e el lw) (g : ∀ a, z + 474 ≤ a → a ≤ z + 495 → ¬ imK (hK hC a)) (k : Nat) (v : Int64) : RL o (wJ hC (z + 495) k v) hT z m x τ υ e el lw := by
  refine r.scC g ⟨rfl, rfl, rfl, rfl, fun a q => sm_wJ (by omega), rfl, rfl, rfl, ?_, ?_⟩
  · rw [hJ_wJ, if_neg (by omega)]
  · rw [hJ_wJ, if_neg (by omega)]
theorem FCown {z : Nat} {h h' : AH} (S : ∀ a, z + 474 ≤ a → a ≤ z + 495 → sm h h' a) (h1 : hn h ≤ hn h') (h2 : hc h ≤ hc h' + 9000) (h3 : hs h ≤ hs h' + 100000) (k : Nat) (v : Int64) : FC z h (wJ h' (z + 495) k v) :=
  ⟨⟨by rw [hn_wJ]; exact h1, by rw [hc_wJ]; exact h2, by rw [hs_wJ]; exact h3⟩, fun a q1 q2 => (S a q1 (by omega)).trans (sm_wJ (by omega)), (S _ (by omega) (by omega)).1, (S _ (by omega) (by omega)).2.1⟩
theorem drv_ok {o : Nat → Nat} {hC hT : AH} {z m x : Nat} {τ : Nat → Int} {υ : Nat → Int64} {e : Nat → Nat} {el : Nat → Nat → Nat} {lw : Nat} (r : RL o hC hT z m x τ υ e el lw) (g : rm z hC) (q4 : τ 1 < 6) (mn hb kn dt : Int) : ∃ hC' hD e', B_X1_driver_57 hC z (iI mn) (iI hb) (iI kn) (iI dt) (iI 1) = some (.inl (iI (τ 1), hC')) ∧ hn hD = hn hC + 1 ∧ (∀ a, a < hn hC → sm hC hD a) ∧ (∀ a, hn hD ≤ a → hK hD a = 0) ∧ (∀ a, hn hC ≤ a → hK hD a ≠ 120) ∧ AW hD hC' (x + 2) (e 1) e' (τ 1) (hn hC) ∧ (hK hC' (hn hC) = 10 ∧ hI hC' (hn hC) 0 = iI mn ∧ hI hC' (hn hC) 1 = iI hb ∧ hI hC' (hn hC) 2 = iI kn ∧ hI hC' (hn hC) 3 = iI dt) ∧ (∀ a, a < hn hC → o a ≠ 2 → sm hC hC' a) ∧ hc hC ≤ hc hC' + 2 ∧ hs hC ≤ hs hC' + 204 ∧ hn hC ≤ hn hC' := by
  have c := r.c
  have cs := r.cs
  have hz := r.hz
  have hnz := r.hnz
  have hd6 := c.rg.d
  have lt : ∀ a, o a ≠ 0 → a < hn hC := fun a ha => Nat.lt_of_not_le fun q => ha (r.ho a q).2
  generalize hH : wI (wI (wI (wI (nw hC 10 0 4) (hn hC) 0 (iI mn)) (hn hC) 1 (iI hb)) (hn hC) 2 (iI kn)) (hn hC) 3 (iI dt) = hD
  have sD : ∀ a, a ≠ hn hC → sm hC hD a := fun a ha => by rw [← hH]; exact (sm_nw ha).trans ((sm_wI ha).trans ((sm_wI ha).trans ((sm_wI ha).trans (sm_wI ha))))
  have kD : hK hD (hn hC) = 10 := by rw [← hH]; show hK (nw hC 10 0 4) (hn hC) = 10; rw [hK_nw, if_pos rfl]
  have nD : hn hD = hn hC + 1 := by rw [← hH]; rfl
  have cD : hc hD = hc hC - 1 := by rw [← hH]; rfl
  have sD2 : hs hD = hs hC - 4 := by rw [← hH]; rfl
  have d3 : ∀ a, hn hD ≤ a → hK hD a = 0 := fun a ha => by rw [(sD a (by omega)).1]; exact (r.ho a (by omega)).1
  have d4 : ∀ a, hn hC ≤ a → hK hD a ≠ 120 := fun a ha => by
    by_cases q : a = hn hC
    · rw [q, kD]; omega
    · rw [d3 a (by omega)]; omega
  have hg1 := g.1
  have hg2 := g.2.1
  obtain ⟨hC', e', h1, h2, h3, h4⟩ := r.call1 (hD := hD) (D := hn hC) ⟨Nat.le_refl _, by omega⟩ (fun a ha => sD a (by omega)) d3 (by rw [kD]; unfold okE; omega) (by omega)
  have h2' := h2
  obtain ⟨w1, w2, w3, w4, w5, w6, w7, w8, w9, w10, w11, w12, w13, w14, w15⟩ := h2
  have sz := h3 z (by omega) (by rw [r.ow z (Or.inl rfl)]; omega)
  have lx2 := lt (x + 2) (by rw [c.ox 2 (by omega) (by omega)]; omega)
  have kl : hK hC (x + 2) = 32 := c.a1.k
  have ke : hK hC (e 1) = 108 ∨ hK hC (e 1) = 120 := by rcases c.a1.c with w | w <;> omega
  have le1 : e 1 < hn hC := Nat.lt_of_not_le fun q => by have := (r.ho _ q).1; omega
  have sDD : sm hD hC' (hn hC) := w10 (hn hC) (by omega) (by omega) (by omega)
  refine ⟨hC', hD, e', ?_, nD, fun a ha => sD a (by omega), d3, d4, h2', ?_, h3, by omega, by omega, by omega⟩
  · unfold B_X1_driver_57
    have qF : (τ 1 = 6) = False := eq_false (by omega)
    have kx2 : hK hD (x + 2) = 32 := by rw [(sD _ (by omega)).1]; exact kl
    have kz' : hK hC' z = 1 := by rw [sz.1]; exact cs.k
    have rz' : hR hC' z 0 = some x := by rw [sz.2.2.2.2]; exact hz
    have kx' : hK hC' x = 2 := by rw [h4.1]; exact c.k
    have rx' : hR hC' x 1 = some (x + 2) := by rw [h4.2.2.2.2]; exact c.r1
    have e0 : τ 1 + 1 - 1 = τ 1 := by omega
    simp (disch := omega) only [i_lit, i_neg, i_add, i_sub, i_mul, i_ofNat, i_div, i_le, i_lt, i_eq, i_ix, i_inb, i_max, i_min, e_rem, j_lit, j_i, Int.reduceToNat, Int.reduceAdd, Int.reduceSub, Int.reduceMul, Int.reduceNeg, Int.reduceLT, Int.reduceLE, Int.reduceEq, gd_t, gd_T, ↓bd_m, ↓lh_t, ↓on_m, ↓ec_m, ↓reduceIte, if_true, if_false, true_and, and_true, false_and, and_false, true_or, or_true, false_or, or_false, Bool.false_eq_true, b2i_0, b2i_1, bl_0, bl_1, bl_b2, not_true_eq_false, not_false_eq_true, right_t, cs.k, hz, c.k, c.r1, c.a1.k, size_eq c.a1, qF, init10 (show hK (nw hC 10 0 4) (hn hC) = 10 by rw [hK_nw, if_pos rfl]), hH, kx2, h1, kz', rz', kx', rx', w1.k, size_eq w1, e0]
  · rw [sDD.1, sDD.2.2.1]
    refine ⟨kD, ?_, ?_, ?_, ?_⟩
    · rw [← hH, hI_wI, if_neg (by omega), hI_wI, if_neg (by omega), hI_wI, if_neg (by omega), hI_wI, if_pos ⟨rfl, rfl⟩]
    · rw [← hH, hI_wI, if_neg (by omega), hI_wI, if_neg (by omega), hI_wI, if_pos ⟨rfl, rfl⟩]
    · rw [← hH, hI_wI, if_neg (by omega), hI_wI, if_pos ⟨rfl, rfl⟩]
    · rw [← hH, hI_wI, if_pos ⟨rfl, rfl⟩]
theorem op_driver {z m : Nat} (x1 x2 x3 x4 : Int32) : ∀ hC hT, Rx hC hT z m → rm z hC → Ok2 (F_X0_driver hC z x1 x2 x3 x4 (z + 495)) (F_X8_driver hT m x1 x2 x3 x4) (fun a b => VI z m a b ∧ FC z hC a.2 ∧ FT m hT b.2 ∧ Rx a.2 b.2 z m) := by
  intro hC hT ⟨o, x, τ, υ, e, el, lw, r⟩ g
  have hn4 := r.c.rg.n
  have cs := r.cs
  have c := r.c
  have hz := r.hz
  have ts0 := r.tn.s
  have tn := r.tn.wm 5 (iI 0)
  have ti := tn.i
  have ts := tn.s
  have hgi := c.rg.i
  have gr : 1 ≤ hc hC ∧ 6 ≤ hs hC := by have := g.1; have := g.2.1; omega
  obtain ⟨mn, rfl, hmn⟩ := i_ex x1
  obtain ⟨hb, rfl, hhb⟩ := i_ex x2
  obtain ⟨kn, rfl, hkn⟩ := i_ex x3
  obtain ⟨dt, rfl, hdt⟩ := i_ex x4
  have hd6 := c.rg.d
  have hnz := r.hnz
  have esh := one_shl (τ 0).toNat (by omega)
  rw [show (((τ 0).toNat : Nat) : Int) = τ 0 by omega] at esh
  have pw : 1 ≤ 2 ^ (τ 0).toNat ∧ 2 ^ (τ 0).toNat ≤ 16 := by
    rcases (show (τ 0).toNat = 0 ∨ (τ 0).toNat = 1 ∨ (τ 0).toNat = 2 ∨ (τ 0).toNat = 3 ∨ (τ 0).toNat = 4 by omega) with w | w | w | w | w <;> rw [w] <;> decide
  generalize hpw : ((2 ^ (τ 0).toNat : Nat) : Int) = pwv at esh
  have pw2 : 1 ≤ pwv ∧ pwv ≤ 16 := by omega
  unfold F_X0_driver F_X1_driver B_X1_driver_56 B_X0_driver_21 B_X0_driver_17 F_X8_driver B_X8_driver_5 B_X8_driver_60
  have e1 := isStation_eq tn hn4 hhb
  have e2 := within_eq (wI hT m 5 (iI 0)) (a := mn) (b := 1) (c := 99) (by omega) (by omega) (by omega)
  have e3 := isIn_eq hC (a := mn) (b := 1) (c := 99) (by omega) (by omega) (by omega)
  have e4 := within_eq (wI hT m 5 (iI 0)) (a := dt) (b := 0) (c := 20) (by omega) (by omega) (by omega)
  have e5 := isIn_eq hC (a := dt) (b := 0) (c := 20) (by omega) (by omega) (by omega)
  have e6 := isIn_eq hC (a := kn) (b := 0) (c := pwv - 1) (by omega) (by omega) (by omega)
  have bad2 : B_X1_driver_57 hC z (iI mn) (iI hb) (iI kn) (iI dt) (iI 0) = some (.inr (2, hn hC, nw hC 0 0 6)) := by
    unfold B_X1_driver_57
    simp (disch := omega) only [i_lit, i_neg, i_add, i_sub, i_mul, i_ofNat, i_div, i_le, i_lt, i_eq, i_ix, i_inb, i_max, i_min, e_rem, j_lit, j_i, Int.reduceToNat, Int.reduceAdd, Int.reduceSub, Int.reduceMul, Int.reduceNeg, Int.reduceLT, Int.reduceLE, Int.reduceEq, gd_t, gd_T, ↓bd_m, ↓on_m, ↓ec_m, ↓reduceIte, if_true, if_false, true_and, and_true, false_and, and_false, true_or, or_true, false_or, or_false, Bool.false_eq_true, b2i_0, b2i_1, bl_0, bl_1, bl_b2, not_true_eq_false, not_false_eq_true, right_f gr]
  have lhm : ∀ (v : Int32) (k : AH → Option (Int32 × AH)), lh (wI hT m 5 v) k = k (wI hT m 5 v) := fun _ _ => rfl
  have lhJ : ∀ (h : AH) (a j : Nat) (v : Int64) (k : AH → Option (Int32 × AH)), lh (wJ h a j v) k = k (wJ h a j v) := fun _ _ _ _ _ => rfl
  by_cases q : 0 ≤ hb ∧ hb ≤ τ 0 - 1
  · rw [b2_t q] at e1
    by_cases q1 : 1 ≤ mn ∧ mn ≤ 99
    · rw [b2_t q1] at e2 e3
      by_cases q2 : 0 ≤ kn ∧ kn ≤ pwv - 1
      · rw [b2_t q2] at e6
        have k0 : (kn < 0) = False := eq_false (by omega)
        have k1 : (pwv ≤ kn) = False := eq_false (by omega)
        by_cases q3 : 0 ≤ dt ∧ dt ≤ 20
        · rw [b2_t q3] at e4 e5
          by_cases q4 : τ 1 = 6
          · unfold B_X1_driver_57
            simp (disch := omega) only [i_lit, i_neg, i_add, i_sub, i_mul, i_ofNat, i_div, i_le, i_lt, i_eq, i_ix, i_inb, i_max, i_min, e_rem, j_lit, j_i, Int.reduceToNat, Int.reduceAdd, Int.reduceSub, Int.reduceMul, Int.reduceNeg, Int.reduceLT, Int.reduceLE, Int.reduceEq, gd_t, gd_T, ↓bd_m, ↓on_m, ↓ec_m, ↓reduceIte, if_true, if_false, true_and, and_true, false_and, and_false, true_or, or_true, false_or, or_false, Bool.false_eq_true, b2i_0, b2i_1, bl_0, bl_1, bl_b2, not_true_eq_false, not_false_eq_true, lhm, lhJ, cs.k, stationOf_t c cs hz q, e3, hz, c.k, many_eq c, esh, e6, e5, right_t, c.r1, c.a1.k, size_eq c.a1, q4, g.2.2.1, g.2.2.2.1, ts0.k, ts0.r1, ts0.k1, ts0.l1, ts0.r2, ts0.k2, ts0.l2, ts0.r3, ts0.k3, ts0.l3, ts0.r4, ts0.k4, ts0.l4, ts0.r5, ts0.k5, ts0.l5, ts0.r6, ts0.k6, ts0.l6, ts0.r7, ts0.k7, ts0.l7, ts0.r8, ts0.k8, ts0.l8, ts0.r9, ts0.k9, ts0.l9, ts0.r10, ts0.k10, ts0.l10, ts0.r11, ts0.k11, ts0.l11, ts0.r12, ts0.k12, ts0.l12, ts0.r13, ts0.k13, ts0.l13, ts0.r14, ts0.k14, ts0.l14, ts0.r15, ts0.k15, ts0.l15, ts0.r16, ts0.k16, ts0.l16, ts0.r17, ts0.k17, ts0.l17, ts0.r18, ts0.k18, ts0.l18, ts0.r19, ts0.k19, ts0.l19, ts0.r20, ts0.k20, ts0.l20, hK_wI, hL_wI, hR_wI, e1, e2, k0, k1, ti, e4]
            refine Ok2.some ⟨⟨?_, fun _ => ?_⟩, FC.out _ _ _ _, FT.thr _ _ _ _, ⟨o, x, τ, υ, e, el, lw, (r.out g _ _).thr 5 (by omega) _⟩⟩
            · rw [hI_wI, if_pos ⟨rfl, rfl⟩]
            · rw [hJ_wJ, if_pos ⟨rfl, rfl⟩]; first | rfl | exact (j_i (by omega)).symm
          · obtain ⟨hC', hD, e', u1, u2, u3, u4, u5, u6, u7, u8, u9, u10, u11⟩ := drv_ok r g (by omega) mn hb kn dt
            have qF : (τ 1 = 6) = False := eq_false (by omega)
            have so : sm hC hC' (z + 495) := u8 _ (by omega) (by rw [r.ow _ (Or.inr ⟨by omega, by omega⟩)]; omega)
            have ko : hK hC' (z + 495) = 102 := by rw [so.1]; exact g.2.2.1
            have lo : hL hC' (z + 495) = 1 := by rw [so.2.1]; exact g.2.2.2.1
            have en : (τ 1).toNat = (τ 1).toNat := rfl
            have eA : (28 + 4 * τ 1).toNat = 28 + 4 * (τ 1).toNat := by omega
            have eA1 : (28 + 4 * τ 1 + 1).toNat = 29 + 4 * (τ 1).toNat := by omega
            have eA2 : (28 + 4 * τ 1 + 2).toNat = 30 + 4 * (τ 1).toNat := by omega
            have eA3 : (28 + 4 * τ 1 + 3).toNat = 31 + 4 * (τ 1).toNat := by omega
            simp (disch := omega) only [i_lit, i_neg, i_add, i_sub, i_mul, i_ofNat, i_div, i_le, i_lt, i_eq, i_ix, i_inb, i_max, i_min, e_rem, j_lit, j_i, Int.reduceToNat, Int.reduceAdd, Int.reduceSub, Int.reduceMul, Int.reduceNeg, Int.reduceLT, Int.reduceLE, Int.reduceEq, gd_t, gd_T, ↓bd_m, ↓on_m, ↓ec_m, ↓reduceIte, if_true, if_false, true_and, and_true, false_and, and_false, true_or, or_true, false_or, or_false, Bool.false_eq_true, b2i_0, b2i_1, bl_0, bl_1, bl_b2, not_true_eq_false, not_false_eq_true, lhm, lhJ, cs.k, stationOf_t c cs hz q, e3, hz, c.k, many_eq c, esh, e6, e5, u1, ko, lo, ts0.k, ts0.r1, ts0.k1, ts0.l1, ts0.r2, ts0.k2, ts0.l2, ts0.r3, ts0.k3, ts0.l3, ts0.r4, ts0.k4, ts0.l4, ts0.r5, ts0.k5, ts0.l5, ts0.r6, ts0.k6, ts0.l6, ts0.r7, ts0.k7, ts0.l7, ts0.r8, ts0.k8, ts0.l8, ts0.r9, ts0.k9, ts0.l9, ts0.r10, ts0.k10, ts0.l10, ts0.r11, ts0.k11, ts0.l11, ts0.r12, ts0.k12, ts0.l12, ts0.r13, ts0.k13, ts0.l13, ts0.r14, ts0.k14, ts0.l14, ts0.r15, ts0.k15, ts0.l15, ts0.r16, ts0.k16, ts0.l16, ts0.r17, ts0.k17, ts0.l17, ts0.r18, ts0.k18, ts0.l18, ts0.r19, ts0.k19, ts0.l19, ts0.r20, ts0.k20, ts0.l20, hK_wI, hL_wI, hR_wI, e1, e2, k0, k1, ti, e4, qF, eA]
            refine Ok2.fwT (P := fun a => a = m + 1) tn hmn tf.rfl rfl (fun g1 t1 T1 j1 => ?_)
            unfold B_X8_driver_100
            have ts1 := t1.s
            simp (disch := omega) only [i_lit, i_neg, i_add, i_sub, i_mul, i_ofNat, i_div, i_le, i_lt, i_eq, i_ix, i_inb, i_max, i_min, e_rem, j_lit, j_i, Int.reduceToNat, Int.reduceAdd, Int.reduceSub, Int.reduceMul, Int.reduceNeg, Int.reduceLT, Int.reduceLE, Int.reduceEq, gd_t, gd_T, ↓bd_m, ↓on_m, ↓ec_m, ↓reduceIte, if_true, if_false, true_and, and_true, false_and, and_false, true_or, or_true, false_or, or_false, Bool.false_eq_true, b2i_0, b2i_1, bl_0, bl_1, bl_b2, not_true_eq_false, not_false_eq_true, ts1.k, ts1.r1, ts1.k1, ts1.l1, ts1.r2, ts1.k2, ts1.l2, ts1.r3, ts1.k3, ts1.l3, ts1.r4, ts1.k4, ts1.l4, ts1.r5, ts1.k5, ts1.l5, ts1.r6, ts1.k6, ts1.l6, ts1.r7, ts1.k7, ts1.l7, ts1.r8, ts1.k8, ts1.l8, ts1.r9, ts1.k9, ts1.l9, ts1.r10, ts1.k10, ts1.l10, ts1.r11, ts1.k11, ts1.l11, ts1.r12, ts1.k12, ts1.l12, ts1.r13, ts1.k13, ts1.l13, ts1.r14, ts1.k14, ts1.l14, ts1.r15, ts1.k15, ts1.l15, ts1.r16, ts1.k16, ts1.l16, ts1.r17, ts1.k17, ts1.l17, ts1.r18, ts1.k18, ts1.l18, ts1.r19, ts1.k19, ts1.l19, ts1.r20, ts1.k20, ts1.l20, eA1]
            refine Ok2.fwT t1 hhb T1 rfl (fun g2 t2 T2 j2 => ?_)
            unfold B_X8_driver_110
            have ts2 := t2.s
            simp (disch := omega) only [i_lit, i_neg, i_add, i_sub, i_mul, i_ofNat, i_div, i_le, i_lt, i_eq, i_ix, i_inb, i_max, i_min, e_rem, j_lit, j_i, Int.reduceToNat, Int.reduceAdd, Int.reduceSub, Int.reduceMul, Int.reduceNeg, Int.reduceLT, Int.reduceLE, Int.reduceEq, gd_t, gd_T, ↓bd_m, ↓on_m, ↓ec_m, ↓reduceIte, if_true, if_false, true_and, and_true, false_and, and_false, true_or, or_true, false_or, or_false, Bool.false_eq_true, b2i_0, b2i_1, bl_0, bl_1, bl_b2, not_true_eq_false, not_false_eq_true, ts2.k, ts2.r1, ts2.k1, ts2.l1, ts2.r2, ts2.k2, ts2.l2, ts2.r3, ts2.k3, ts2.l3, ts2.r4, ts2.k4, ts2.l4, ts2.r5, ts2.k5, ts2.l5, ts2.r6, ts2.k6, ts2.l6, ts2.r7, ts2.k7, ts2.l7, ts2.r8, ts2.k8, ts2.l8, ts2.r9, ts2.k9, ts2.l9, ts2.r10, ts2.k10, ts2.l10, ts2.r11, ts2.k11, ts2.l11, ts2.r12, ts2.k12, ts2.l12, ts2.r13, ts2.k13, ts2.l13, ts2.r14, ts2.k14, ts2.l14, ts2.r15, ts2.k15, ts2.l15, ts2.r16, ts2.k16, ts2.l16, ts2.r17, ts2.k17, ts2.l17, ts2.r18, ts2.k18, ts2.l18, ts2.r19, ts2.k19, ts2.l19, ts2.r20, ts2.k20, ts2.l20, eA2]
            refine Ok2.fwT t2 hkn T2 rfl (fun g3 t3 T3 j3 => ?_)
            unfold B_X8_driver_120
            have ts3 := t3.s
            simp (disch := omega) only [i_lit, i_neg, i_add, i_sub, i_mul, i_ofNat, i_div, i_le, i_lt, i_eq, i_ix, i_inb, i_max, i_min, e_rem, j_lit, j_i, Int.reduceToNat, Int.reduceAdd, Int.reduceSub, Int.reduceMul, Int.reduceNeg, Int.reduceLT, Int.reduceLE, Int.reduceEq, gd_t, gd_T, ↓bd_m, ↓on_m, ↓ec_m, ↓reduceIte, if_true, if_false, true_and, and_true, false_and, and_false, true_or, or_true, false_or, or_false, Bool.false_eq_true, b2i_0, b2i_1, bl_0, bl_1, bl_b2, not_true_eq_false, not_false_eq_true, ts3.k, ts3.r1, ts3.k1, ts3.l1, ts3.r2, ts3.k2, ts3.l2, ts3.r3, ts3.k3, ts3.l3, ts3.r4, ts3.k4, ts3.l4, ts3.r5, ts3.k5, ts3.l5, ts3.r6, ts3.k6, ts3.l6, ts3.r7, ts3.k7, ts3.l7, ts3.r8, ts3.k8, ts3.l8, ts3.r9, ts3.k9, ts3.l9, ts3.r10, ts3.k10, ts3.l10, ts3.r11, ts3.k11, ts3.l11, ts3.r12, ts3.k12, ts3.l12, ts3.r13, ts3.k13, ts3.l13, ts3.r14, ts3.k14, ts3.l14, ts3.r15, ts3.k15, ts3.l15, ts3.r16, ts3.k16, ts3.l16, ts3.r17, ts3.k17, ts3.l17, ts3.r18, ts3.k18, ts3.l18, ts3.r19, ts3.k19, ts3.l19, ts3.r20, ts3.k20, ts3.l20, eA3]
            refine Ok2.fwT t3 hdt T3 rfl (fun g4 t4 T4 j4 => ?_)
            unfold B_X8_driver_131
            have ts4 := t4.s
            have v4 := t4.i 1
            rw [upT_o (by omega), upT_o (by omega), upT_o (by omega), upT_o (by omega)] at v4
            simp (disch := omega) only [i_lit, i_neg, i_add, i_sub, i_mul, i_ofNat, i_div, i_le, i_lt, i_eq, i_ix, i_inb, i_max, i_min, e_rem, j_lit, j_i, Int.reduceToNat, Int.reduceAdd, Int.reduceSub, Int.reduceMul, Int.reduceNeg, Int.reduceLT, Int.reduceLE, Int.reduceEq, gd_t, gd_T, ↓bd_m, ↓on_m, ↓ec_m, ↓reduceIte, if_true, if_false, true_and, and_true, false_and, and_false, true_or, or_true, false_or, or_false, Bool.false_eq_true, b2i_0, b2i_1, bl_0, bl_1, bl_b2, not_true_eq_false, not_false_eq_true, ts4.k, ts4.r1, ts4.k1, ts4.l1, ts4.r2, ts4.k2, ts4.l2, ts4.r3, ts4.k3, ts4.l3, ts4.r4, ts4.k4, ts4.l4, ts4.r5, ts4.k5, ts4.l5, ts4.r6, ts4.k6, ts4.l6, ts4.r7, ts4.k7, ts4.l7, ts4.r8, ts4.k8, ts4.l8, ts4.r9, ts4.k9, ts4.l9, ts4.r10, ts4.k10, ts4.l10, ts4.r11, ts4.k11, ts4.l11, ts4.r12, ts4.k12, ts4.l12, ts4.r13, ts4.k13, ts4.l13, ts4.r14, ts4.k14, ts4.l14, ts4.r15, ts4.k15, ts4.l15, ts4.r16, ts4.k16, ts4.l16, ts4.r17, ts4.k17, ts4.l17, ts4.r18, ts4.k18, ts4.l18, ts4.r19, ts4.k19, ts4.l19, ts4.r20, ts4.k20, ts4.l20, v4]
            refine Ok2.fwT t4 (by omega) T4 rfl (fun g5 t5 T5 j5 => ?_)
            unfold B_X8_driver_141
            have ts5 := t5.s
            have v5 := t5.i 1
            rw [upT_s] at v5
            simp (disch := omega) only [i_lit, i_neg, i_add, i_sub, i_mul, i_ofNat, i_div, i_le, i_lt, i_eq, i_ix, i_inb, i_max, i_min, e_rem, j_lit, j_i, Int.reduceToNat, Int.reduceAdd, Int.reduceSub, Int.reduceMul, Int.reduceNeg, Int.reduceLT, Int.reduceLE, Int.reduceEq, gd_t, gd_T, ↓bd_m, ↓on_m, ↓ec_m, ↓reduceIte, if_true, if_false, true_and, and_true, false_and, and_false, true_or, or_true, false_or, or_false, Bool.false_eq_true, b2i_0, b2i_1, bl_0, bl_1, bl_b2, not_true_eq_false, not_false_eq_true, ts5.k, ts5.r1, ts5.k1, ts5.l1, ts5.r2, ts5.k2, ts5.l2, ts5.r3, ts5.k3, ts5.l3, ts5.r4, ts5.k4, ts5.l4, ts5.r5, ts5.k5, ts5.l5, ts5.r6, ts5.k6, ts5.l6, ts5.r7, ts5.k7, ts5.l7, ts5.r8, ts5.k8, ts5.l8, ts5.r9, ts5.k9, ts5.l9, ts5.r10, ts5.k10, ts5.l10, ts5.r11, ts5.k11, ts5.l11, ts5.r12, ts5.k12, ts5.l12, ts5.r13, ts5.k13, ts5.l13, ts5.r14, ts5.k14, ts5.l14, ts5.r15, ts5.k15, ts5.l15, ts5.r16, ts5.k16, ts5.l16, ts5.r17, ts5.k17, ts5.l17, ts5.r18, ts5.k18, ts5.l18, ts5.r19, ts5.k19, ts5.l19, ts5.r20, ts5.k20, ts5.l20, v5]
            have hτ : ∀ i, ¬ (i = 1 ∨ (28 + 4 * (τ 1).toNat ≤ i ∧ i ≤ 31 + 4 * (τ 1).toNat)) → upT (upT (upT (upT (upT τ (28 + 4 * (τ 1).toNat) mn) (29 + 4 * (τ 1).toNat) hb) (30 + 4 * (τ 1).toNat) kn) (31 + 4 * (τ 1).toNat) dt) 1 (τ 1 + 1) i = τ i := fun i hi => by rw [upT_o (by omega), upT_o (by omega), upT_o (by omega), upT_o (by omega), upT_o (by omega)]
            have y0 : upT (upT (upT (upT (upT τ (28 + 4 * (τ 1).toNat) mn) (29 + 4 * (τ 1).toNat) hb) (30 + 4 * (τ 1).toNat) kn) (31 + 4 * (τ 1).toNat) dt) 1 (τ 1 + 1) (28 + 4 * (τ 1).toNat) = mn := by rw [upT_o (by omega), upT_o (by omega), upT_o (by omega), upT_o (by omega), upT_s]
            have y1 : upT (upT (upT (upT (upT τ (28 + 4 * (τ 1).toNat) mn) (29 + 4 * (τ 1).toNat) hb) (30 + 4 * (τ 1).toNat) kn) (31 + 4 * (τ 1).toNat) dt) 1 (τ 1 + 1) (29 + 4 * (τ 1).toNat) = hb := by rw [upT_o (by omega), upT_o (by omega), upT_o (by omega), upT_s]
            have y2 : upT (upT (upT (upT (upT τ (28 + 4 * (τ 1).toNat) mn) (29 + 4 * (τ 1).toNat) hb) (30 + 4 * (τ 1).toNat) kn) (31 + 4 * (τ 1).toNat) dt) 1 (τ 1 + 1) (30 + 4 * (τ 1).toNat) = kn := by rw [upT_o (by omega), upT_o (by omega), upT_s]
            have y3 : upT (upT (upT (upT (upT τ (28 + 4 * (τ 1).toNat) mn) (29 + 4 * (τ 1).toNat) hb) (30 + 4 * (τ 1).toNat) kn) (31 + 4 * (τ 1).toNat) dt) 1 (τ 1 + 1) (31 + 4 * (τ 1).toNat) = dt := by rw [upT_o (by omega), upT_s]
            have y4 : upT (upT (upT (upT (upT τ (28 + 4 * (τ 1).toNat) mn) (29 + 4 * (τ 1).toNat) hb) (30 + 4 * (τ 1).toNat) kn) (31 + 4 * (τ 1).toNat) dt) 1 (τ 1 + 1) 1 = τ 1 + 1 := upT_s _ _ _
            generalize upT (upT (upT (upT (upT τ (28 + 4 * (τ 1).toNat) mn) (29 + 4 * (τ 1).toNat) hb) (30 + 4 * (τ 1).toNat) kn) (31 + 4 * (τ 1).toNat) dt) 1 (τ 1 + 1) = τ' at hτ y0 y1 y2 y3 y4 t5
            have tn' := t5
            have rg' : RG τ' := ⟨by rw [hτ 0 (by omega)]; exact c.rg.n,
    by rw [y4]; omega,
    by rw [hτ 2 (by omega)]; exact c.rg.h,
    by rw [hτ 3 (by omega)]; exact c.rg.l,
    by rw [hτ 4 (by omega)]; exact c.rg.r,
    by rw [hτ 5 (by omega)]; exact c.rg.t,
    by rw [hτ 6 (by omega)]; exact c.rg.c,
    fun i hi => by rw [hτ _ (by omega)]; exact c.rg.cost i hi,
    fun i hi => by rw [hτ _ (by omega)]; exact c.rg.price i hi,
    fun i hi => by rw [hτ _ (by omega)]; exact c.rg.late i hi,
    fun i hi => by rw [hτ _ (by omega)]; exact c.rg.first i hi,
    fun i hi => by rw [hτ 0 (by omega)] at hi; have := c.rg.n; rw [hτ (24 + i) (by omega), hτ 2 (by omega)]; exact c.rg.chg i hi,
    fun k hk => by
                    rw [y4] at hk
                    rw [hτ 0 (by omega)]
                    by_cases w : k = (τ 1).toNat
                    · subst w
                      rw [y0, y1, y2, y3]
                      omega
                    · rw [hτ (28 + 4 * k) (by omega), hτ (29 + 4 * k) (by omega), hτ (30 + 4 * k) (by omega), hτ (31 + 4 * k) (by omega)]
                      exact c.rg.drv k (by omega),
    fun i hi => by rw [hτ _ (by omega)]; exact c.rg.lev i hi,
    fun i hi => by rw [hτ 4 (by omega)] at hi; have := c.rg.r; rw [hτ _ (by omega)]; exact c.rg.rise i hi,
    fun i hi => by rw [hτ _ (by omega)]; exact c.rg.wgt i hi,
    by rw [hτ 120 (by omega)]; exact c.rg.once,
    by rw [hτ 121 (by omega)]; exact c.rg.at,
    by rw [hτ 122 (by omega)]; exact c.rg.cap,
    by rw [hτ 123 (by omega)]; exact c.rg.told,
    by rw [hτ 124 (by omega)]; exact c.rg.byc,
    fun i hi => by rw [hτ _ (by omega)]; exact c.rg.brd i hi,
    fun i hi => by rw [hτ _ (by omega)]; exact c.rg.row i hi,
    fun k hk => by rw [hτ 6 (by omega)] at hk; have := c.rg.c; rw [hτ (3149 + 3 * k) (by omega), hτ (3150 + 3 * k) (by omega), hτ (3151 + 3 * k) (by omega)]; exact c.rg.chn k hk,
    tn'.g⟩
            have rr := (r.thr 5 (by omega) (iI 0)).add1 (hD := hD) (hC' := hC') (n := τ 1) (D := hn hC) (e' := e') rfl (by omega) ⟨Nat.le_refl _, by omega⟩ u3 u4 u5 u6 hτ y4 ⟨u7.1, by rw [y0]; exact u7.2.1, by rw [y1]; exact u7.2.2.1, by rw [y2]; exact u7.2.2.2.1, by rw [y3]; exact u7.2.2.2.2⟩ rg' T5 tn'
            have sW : ∀ a, z + 474 ≤ a → a ≤ z + 495 → sm hC hC' a := fun a h1 h2 => u8 a (by omega) (by rw [r.ow a (Or.inr ⟨by omega, by omega⟩)]; omega)
            have g' : ∀ a, z + 474 ≤ a → a ≤ z + 495 → ¬ imK (hK hC' a) := fun a h1 h2 => by rw [(sW a h1 h2).1]; exact g.2.2.2.2 a h1 h2
            refine Ok2.some ⟨⟨?_, fun _ => ?_⟩, FCown sW u11 (by omega) (by omega) _ _, (FT.thr _ _ _ _).trans (T5.mono (fun a u => by omega)), ⟨_, x, τ', υ, _, _, lw, rr.outk g' _ _⟩⟩
            · show _ = hI g5 m 5
              rw [j5, j4, j3, j2, j1, hI_wI, if_pos ⟨rfl, rfl⟩]
            · show hJ (wJ _ _ _ _) _ _ = _
              rw [hJ_wJ, if_pos ⟨rfl, rfl⟩]
              first | rfl | exact (j_i (by omega)).symm | (rw [show τ 1 + 1 - 1 = τ 1 by omega]; first | rfl | exact (j_i (by omega)).symm)
        · rw [b2_f q3] at e4 e5
          simp (disch := omega) only [i_lit, i_neg, i_add, i_sub, i_mul, i_ofNat, i_div, i_le, i_lt, i_eq, i_ix, i_inb, i_max, i_min, e_rem, j_lit, j_i, Int.reduceToNat, Int.reduceAdd, Int.reduceSub, Int.reduceMul, Int.reduceNeg, Int.reduceLT, Int.reduceLE, Int.reduceEq, gd_t, gd_T, ↓bd_m, ↓on_m, ↓ec_m, ↓reduceIte, if_true, if_false, true_and, and_true, false_and, and_false, true_or, or_true, false_or, or_false, Bool.false_eq_true, b2i_0, b2i_1, bl_0, bl_1, bl_b2, not_true_eq_false, not_false_eq_true, lhm, lhJ, cs.k, stationOf_t c cs hz q, e3, hz, c.k, many_eq c, esh, e6, e5, bad2, ts0.k, ts0.r1, ts0.k1, ts0.l1, ts0.r2, ts0.k2, ts0.l2, ts0.r3, ts0.k3, ts0.l3, ts0.r4, ts0.k4, ts0.l4, ts0.r5, ts0.k5, ts0.l5, ts0.r6, ts0.k6, ts0.l6, ts0.r7, ts0.k7, ts0.l7, ts0.r8, ts0.k8, ts0.l8, ts0.r9, ts0.k9, ts0.l9, ts0.r10, ts0.k10, ts0.l10, ts0.r11, ts0.k11, ts0.l11, ts0.r12, ts0.k12, ts0.l12, ts0.r13, ts0.k13, ts0.l13, ts0.r14, ts0.k14, ts0.l14, ts0.r15, ts0.k15, ts0.l15, ts0.r16, ts0.k16, ts0.l16, ts0.r17, ts0.k17, ts0.l17, ts0.r18, ts0.k18, ts0.l18, ts0.r19, ts0.k19, ts0.l19, ts0.r20, ts0.k20, ts0.l20, hK_wI, hL_wI, hR_wI, e1, e2, k0, k1, ti, e4, fails_eq ts.k]
          exact Ok2.some (r.bad _ (by decide))
      · rw [b2_f q2] at e6
        by_cases k0 : kn < 0
        · simp (disch := omega) only [i_lit, i_neg, i_add, i_sub, i_mul, i_ofNat, i_div, i_le, i_lt, i_eq, i_ix, i_inb, i_max, i_min, e_rem, j_lit, j_i, Int.reduceToNat, Int.reduceAdd, Int.reduceSub, Int.reduceMul, Int.reduceNeg, Int.reduceLT, Int.reduceLE, Int.reduceEq, gd_t, gd_T, ↓bd_m, ↓on_m, ↓ec_m, ↓reduceIte, if_true, if_false, true_and, and_true, false_and, and_false, true_or, or_true, false_or, or_false, Bool.false_eq_true, b2i_0, b2i_1, bl_0, bl_1, bl_b2, not_true_eq_false, not_false_eq_true, lhm, lhJ, cs.k, stationOf_t c cs hz q, e3, hz, c.k, many_eq c, esh, e6, bad2, ts0.k, ts0.r1, ts0.k1, ts0.l1, ts0.r2, ts0.k2, ts0.l2, ts0.r3, ts0.k3, ts0.l3, ts0.r4, ts0.k4, ts0.l4, ts0.r5, ts0.k5, ts0.l5, ts0.r6, ts0.k6, ts0.l6, ts0.r7, ts0.k7, ts0.l7, ts0.r8, ts0.k8, ts0.l8, ts0.r9, ts0.k9, ts0.l9, ts0.r10, ts0.k10, ts0.l10, ts0.r11, ts0.k11, ts0.l11, ts0.r12, ts0.k12, ts0.l12, ts0.r13, ts0.k13, ts0.l13, ts0.r14, ts0.k14, ts0.l14, ts0.r15, ts0.k15, ts0.l15, ts0.r16, ts0.k16, ts0.l16, ts0.r17, ts0.k17, ts0.l17, ts0.r18, ts0.k18, ts0.l18, ts0.r19, ts0.k19, ts0.l19, ts0.r20, ts0.k20, ts0.l20, hK_wI, hL_wI, hR_wI, e1, e2, k0, ti, fails_eq ts.k]
          exact Ok2.some (r.bad _ (by decide))
        · have k1 : (pwv ≤ kn) = True := eq_true (by omega)
          simp (disch := omega) only [i_lit, i_neg, i_add, i_sub, i_mul, i_ofNat, i_div, i_le, i_lt, i_eq, i_ix, i_inb, i_max, i_min, e_rem, j_lit, j_i, Int.reduceToNat, Int.reduceAdd, Int.reduceSub, Int.reduceMul, Int.reduceNeg, Int.reduceLT, Int.reduceLE, Int.reduceEq, gd_t, gd_T, ↓bd_m, ↓on_m, ↓ec_m, ↓reduceIte, if_true, if_false, true_and, and_true, false_and, and_false, true_or, or_true, false_or, or_false, Bool.false_eq_true, b2i_0, b2i_1, bl_0, bl_1, bl_b2, not_true_eq_false, not_false_eq_true, lhm, lhJ, cs.k, stationOf_t c cs hz q, e3, hz, c.k, many_eq c, esh, e6, bad2, ts0.k, ts0.r1, ts0.k1, ts0.l1, ts0.r2, ts0.k2, ts0.l2, ts0.r3, ts0.k3, ts0.l3, ts0.r4, ts0.k4, ts0.l4, ts0.r5, ts0.k5, ts0.l5, ts0.r6, ts0.k6, ts0.l6, ts0.r7, ts0.k7, ts0.l7, ts0.r8, ts0.k8, ts0.l8, ts0.r9, ts0.k9, ts0.l9, ts0.r10, ts0.k10, ts0.l10, ts0.r11, ts0.k11, ts0.l11, ts0.r12, ts0.k12, ts0.l12, ts0.r13, ts0.k13, ts0.l13, ts0.r14, ts0.k14, ts0.l14, ts0.r15, ts0.k15, ts0.l15, ts0.r16, ts0.k16, ts0.l16, ts0.r17, ts0.k17, ts0.l17, ts0.r18, ts0.k18, ts0.l18, ts0.r19, ts0.k19, ts0.l19, ts0.r20, ts0.k20, ts0.l20, hK_wI, hL_wI, hR_wI, e1, e2, k0, k1, ti, fails_eq ts.k]
          exact Ok2.some (r.bad _ (by decide))
    · rw [b2_f q1] at e2 e3
      simp (disch := omega) only [i_lit, i_neg, i_add, i_sub, i_mul, i_ofNat, i_div, i_le, i_lt, i_eq, i_ix, i_inb, i_max, i_min, e_rem, j_lit, j_i, Int.reduceToNat, Int.reduceAdd, Int.reduceSub, Int.reduceMul, Int.reduceNeg, Int.reduceLT, Int.reduceLE, Int.reduceEq, gd_t, gd_T, ↓bd_m, ↓on_m, ↓ec_m, ↓reduceIte, if_true, if_false, true_and, and_true, false_and, and_false, true_or, or_true, false_or, or_false, Bool.false_eq_true, b2i_0, b2i_1, bl_0, bl_1, bl_b2, not_true_eq_false, not_false_eq_true, lhm, lhJ, cs.k, stationOf_t c cs hz q, e3, bad2, ts0.k, ts0.r1, ts0.k1, ts0.l1, ts0.r2, ts0.k2, ts0.l2, ts0.r3, ts0.k3, ts0.l3, ts0.r4, ts0.k4, ts0.l4, ts0.r5, ts0.k5, ts0.l5, ts0.r6, ts0.k6, ts0.l6, ts0.r7, ts0.k7, ts0.l7, ts0.r8, ts0.k8, ts0.l8, ts0.r9, ts0.k9, ts0.l9, ts0.r10, ts0.k10, ts0.l10, ts0.r11, ts0.k11, ts0.l11, ts0.r12, ts0.k12, ts0.l12, ts0.r13, ts0.k13, ts0.l13, ts0.r14, ts0.k14, ts0.l14, ts0.r15, ts0.k15, ts0.l15, ts0.r16, ts0.k16, ts0.l16, ts0.r17, ts0.k17, ts0.l17, ts0.r18, ts0.k18, ts0.l18, ts0.r19, ts0.k19, ts0.l19, ts0.r20, ts0.k20, ts0.l20, hK_wI, hL_wI, hR_wI, e1, e2, ti, fails_eq ts.k]
      exact Ok2.some (r.bad _ (by decide))
  · rw [b2_f q] at e1
    simp (disch := omega) only [i_lit, i_neg, i_add, i_sub, i_mul, i_ofNat, i_div, i_le, i_lt, i_eq, i_ix, i_inb, i_max, i_min, e_rem, j_lit, j_i, Int.reduceToNat, Int.reduceAdd, Int.reduceSub, Int.reduceMul, Int.reduceNeg, Int.reduceLT, Int.reduceLE, Int.reduceEq, gd_t, gd_T, ↓bd_m, ↓on_m, ↓ec_m, ↓reduceIte, if_true, if_false, true_and, and_true, false_and, and_false, true_or, or_true, false_or, or_false, Bool.false_eq_true, b2i_0, b2i_1, bl_0, bl_1, bl_b2, not_true_eq_false, not_false_eq_true, lhm, lhJ, cs.k, stationOf_f c cs hz hhb q gr, ts0.k, ts0.r1, ts0.k1, ts0.l1, ts0.r2, ts0.k2, ts0.l2, ts0.r3, ts0.k3, ts0.l3, ts0.r4, ts0.k4, ts0.l4, ts0.r5, ts0.k5, ts0.l5, ts0.r6, ts0.k6, ts0.l6, ts0.r7, ts0.k7, ts0.l7, ts0.r8, ts0.k8, ts0.l8, ts0.r9, ts0.k9, ts0.l9, ts0.r10, ts0.k10, ts0.l10, ts0.r11, ts0.k11, ts0.l11, ts0.r12, ts0.k12, ts0.l12, ts0.r13, ts0.k13, ts0.l13, ts0.r14, ts0.k14, ts0.l14, ts0.r15, ts0.k15, ts0.l15, ts0.r16, ts0.k16, ts0.l16, ts0.r17, ts0.k17, ts0.l17, ts0.r18, ts0.k18, ts0.l18, ts0.r19, ts0.k19, ts0.l19, ts0.r20, ts0.k20, ts0.l20, hK_wI, e1, fails_eq ts.k, Nat.reduceEqDiff]
    exact Ok2.some (r.bad _ (by decide))
