/-! PURE X: prices at hand; fills -/
set_option maxRecDepth 100000
theorem asNow_eq {o : Nat → Nat} {t : Nat} {h : AH} {x : Nat} {τ : Nat → Int} {υ : Nat → Int64} {e : Nat → Nat} {el : Nat → Nat → Nat} {lw : Nat} (c : CrP o t h x τ υ e el lw) {z : Nat} (cs : CS h z) (hz : hR h z 0 = some x) (ow : OW o z) (ht1 : t ≠ 1) : ∃ h', F_X1_asNow h z = some h' ∧ tf (fun a => a = z + 275) h h' ∧ ∀ i : Nat, (i : Int) < τ 0 → hI h' (z + 275) i = iI (τ (12 + i)) := by
  have hn4 := c.rg.n
  have key : Ok1 (F_X1_asNow h z) (fun h' => tf (fun a => a = z + 275) h h' ∧ ∀ i : Nat, (i : Int) < τ 0 → hI h' (z + 275) i = iI (τ (12 + i))) := by
    unfold F_X1_asNow G_X1_asNow_2
    refine lp_ok (fun st j => ∃ (g : AH) (o : Int), st = (g, z, iI o) ∧ 0 ≤ o ∧ o ≤ τ 0 ∧ j = (τ 0 - o).toNat ∧ tf (fun a => a = z + 275) h g ∧ ∀ i : Nat, (i : Int) < o → hI g (z + 275) i = iI (τ (12 + i))) ?_ fuel (τ 0).toNat _ ⟨h, 0, rfl, by omega, by omega, by simp, tf.rfl, fun i hi => by omega⟩ (lt_fuel (by omega))
    rintro self st j ⟨g, o, rfl, h1, h2, rfl, T, hv⟩ ih
    have c1 := c.tf T (fun a q => by subst q; exact ⟨ow _ (by omega), by rw [cs.k275]; unfold imK; omega, by rw [cs.k275]; omega⟩) ht1
    have cs1 := cs.tf T
    have hz1 : hR g z 0 = some x := by rw [T.R]; exact hz
    unfold L_X1_asNow_2 B_X1_asNow_2
    by_cases ho : τ 0 ≤ o
    · simp (disch := omega) only [i_lit, i_neg, i_add, i_sub, i_mul, i_ofNat, i_div, i_le, i_lt, i_eq, i_ix, i_inb, i_max, i_min, e_rem, j_lit, j_i, Int.reduceToNat, Int.reduceAdd, Int.reduceSub, Int.reduceMul, Int.reduceNeg, Int.reduceLT, Int.reduceLE, Int.reduceEq, gd_t, gd_T, bd_t, lh_t, on_s, on_n, ec_l, ec_r, if_true, if_false, true_and, and_true, false_and, and_false, true_or, or_true, false_or, or_false, Bool.false_eq_true, b2i_0, b2i_1, bl_0, bl_1, bl_b2, not_true_eq_false, not_false_eq_true, cs1.k, hz1, c1.k, many_eq c1, ho]
      exact Ok1.some ⟨T, fun i hi => hv i (by omega)⟩
    · obtain ⟨k1, k2⟩ := stat_at c1 (s := o) (by omega)
      simp (disch := omega) only [i_lit, i_neg, i_add, i_sub, i_mul, i_ofNat, i_div, i_le, i_lt, i_eq, i_ix, i_inb, i_max, i_min, e_rem, j_lit, j_i, Int.reduceToNat, Int.reduceAdd, Int.reduceSub, Int.reduceMul, Int.reduceNeg, Int.reduceLT, Int.reduceLE, Int.reduceEq, gd_t, gd_T, bd_t, on_s, on_n, ec_l, ec_r, if_true, if_false, true_and, and_true, false_and, and_false, true_or, or_true, false_or, or_false, Bool.false_eq_true, b2i_0, b2i_1, bl_0, bl_1, bl_b2, not_true_eq_false, not_false_eq_true, cs1.k, hz1, c1.k, many_eq c1, ho, cs1.r275, cs1.k275, cs1.l275, c1.r0, c1.a0.k, k1, k2.k, k2.i2]
      refine fw_ T rfl (fun g2 T2 u2 d2 => ?_)
      refine ih _ (τ 0 - (o + 1)).toNat (by omega) ⟨g2, o + 1, rfl, by omega, by omega, rfl, T2, fun i hi => ?_⟩
      by_cases q : i = o.toNat
      · subst q
        exact u2
      · rw [d2 i q]
        exact hv i (by omega)
  obtain ⟨r, h1, h2⟩ := key
  exact ⟨r, h1, h2⟩
def nowS (τ : Nat → Int) (i : Nat) : Int := if (i : Int) < τ 0 then τ (12 + i) else 0
theorem present_eq {h : AH} {m : Nat} {τ : Nat → Int} (t : TN h m τ) (hn4 : 0 ≤ τ 0 ∧ τ 0 ≤ 4) : ∃ h', F_X8_present h m = some h' ∧ tf (fun a => a = m + 10) h h' ∧ ∀ i : Nat, i < 4 → hI h' (m + 10) i = iI (nowS τ i) := by
  have key : Ok1 (F_X8_present h m) (fun h' => tf (fun a => a = m + 10) h h' ∧ ∀ i : Nat, i < 4 → hI h' (m + 10) i = iI (nowS τ i)) := by
    unfold F_X8_present G_X8_present_2
    refine lp_ok (fun st j => ∃ (g : AH) (o : Int), st = (g, m, iI o) ∧ 0 ≤ o ∧ o ≤ 4 ∧ j = (4 - o).toNat ∧ tf (fun a => a = m + 10) h g ∧ ∀ i : Nat, (i : Int) < o → hI g (m + 10) i = iI (nowS τ i)) ?_ fuel 4 _ ⟨h, 0, rfl, by omega, by omega, by simp, tf.rfl, fun i hi => by omega⟩ (lt_fuel (by omega))
    rintro self st j ⟨g, o, rfl, h1, h2, rfl, T, hv⟩ ih
    have t1 := t.tf T (by omega)
    have ts := t1.s
    have ti := t1.i
    unfold L_X8_present_2 B_X8_present_2 B_X8_present_35
    by_cases ho : 4 ≤ o
    · simp (disch := omega) only [i_lit, i_neg, i_add, i_sub, i_mul, i_ofNat, i_div, i_le, i_lt, i_eq, i_ix, i_inb, i_max, i_min, e_rem, j_lit, j_i, Int.reduceToNat, Int.reduceAdd, Int.reduceSub, Int.reduceMul, Int.reduceNeg, Int.reduceLT, Int.reduceLE, Int.reduceEq, gd_t, gd_T, bd_t, lh_t, on_s, on_n, ec_l, ec_r, if_true, if_false, true_and, and_true, false_and, and_false, true_or, or_true, false_or, or_false, Bool.false_eq_true, b2i_0, b2i_1, bl_0, bl_1, bl_b2, not_true_eq_false, not_false_eq_true, ho]
      exact Ok1.some ⟨T, fun i hi => hv i (by omega)⟩
    · by_cases q : τ 0 ≤ o
      · simp (disch := omega) only [i_lit, i_neg, i_add, i_sub, i_mul, i_ofNat, i_div, i_le, i_lt, i_eq, i_ix, i_inb, i_max, i_min, e_rem, j_lit, j_i, Int.reduceToNat, Int.reduceAdd, Int.reduceSub, Int.reduceMul, Int.reduceNeg, Int.reduceLT, Int.reduceLE, Int.reduceEq, gd_t, gd_T, bd_t, on_s, on_n, ec_l, ec_r, if_true, if_false, true_and, and_true, false_and, and_false, true_or, or_true, false_or, or_false, Bool.false_eq_true, b2i_0, b2i_1, bl_0, bl_1, bl_b2, not_true_eq_false, not_false_eq_true, ts.k, ts.r1, ts.k1, ts.l1, ts.r2, ts.k2, ts.l2, ts.r3, ts.k3, ts.l3, ts.r4, ts.k4, ts.l4, ts.r5, ts.k5, ts.l5, ts.r6, ts.k6, ts.l6, ts.r7, ts.k7, ts.l7, ts.r8, ts.k8, ts.l8, ts.r9, ts.k9, ts.l9, ts.r10, ts.k10, ts.l10, ts.r11, ts.k11, ts.l11, ts.r12, ts.k12, ts.l12, ts.r13, ts.k13, ts.l13, ts.r14, ts.k14, ts.l14, ts.r15, ts.k15, ts.l15, ts.r16, ts.k16, ts.l16, ts.r17, ts.k17, ts.l17, ts.r18, ts.k18, ts.l18, ts.r19, ts.k19, ts.l19, ts.r20, ts.k20, ts.l20, ti, ho, q]
        refine fw_ T rfl (fun g2 T2 u2 d2 => ?_)
        refine ih _ (4 - (o + 1)).toNat (by omega) ⟨g2, o + 1, rfl, by omega, by omega, rfl, T2, fun i hi => ?_⟩
        by_cases w : i = o.toNat
        · subst w
          rw [u2]
          unfold nowS
          rw [if_neg (by omega)]
        · rw [d2 i w]
          exact hv i (by omega)
      · simp (disch := omega) only [i_lit, i_neg, i_add, i_sub, i_mul, i_ofNat, i_div, i_le, i_lt, i_eq, i_ix, i_inb, i_max, i_min, e_rem, j_lit, j_i, Int.reduceToNat, Int.reduceAdd, Int.reduceSub, Int.reduceMul, Int.reduceNeg, Int.reduceLT, Int.reduceLE, Int.reduceEq, gd_t, gd_T, bd_t, on_s, on_n, ec_l, ec_r, if_true, if_false, true_and, and_true, false_and, and_false, true_or, or_true, false_or, or_false, Bool.false_eq_true, b2i_0, b2i_1, bl_0, bl_1, bl_b2, not_true_eq_false, not_false_eq_true, ts.k, ts.r1, ts.k1, ts.l1, ts.r2, ts.k2, ts.l2, ts.r3, ts.k3, ts.l3, ts.r4, ts.k4, ts.l4, ts.r5, ts.k5, ts.l5, ts.r6, ts.k6, ts.l6, ts.r7, ts.k7, ts.l7, ts.r8, ts.k8, ts.l8, ts.r9, ts.k9, ts.l9, ts.r10, ts.k10, ts.l10, ts.r11, ts.k11, ts.l11, ts.r12, ts.k12, ts.l12, ts.r13, ts.k13, ts.l13, ts.r14, ts.k14, ts.l14, ts.r15, ts.k15, ts.l15, ts.r16, ts.k16, ts.l16, ts.r17, ts.k17, ts.l17, ts.r18, ts.k18, ts.l18, ts.r19, ts.k19, ts.l19, ts.r20, ts.k20, ts.l20, ti, ho, q]
        refine fw_ T rfl (fun g2 T2 u2 d2 => ?_)
        refine ih _ (4 - (o + 1)).toNat (by omega) ⟨g2, o + 1, rfl, by omega, by omega, rfl, T2, fun i hi => ?_⟩
        by_cases w : i = o.toNat
        · subst w
          rw [u2]
          unfold nowS
          rw [if_pos (by omega), show (12 + o).toNat = 12 + o.toNat by omega]
        · rw [d2 i w]
          exact hv i (by omega)
  obtain ⟨r, h1, h2⟩ := key
  exact ⟨r, h1, h2⟩
theorem tS.tf {m : Nat} {h h' : AH} {P : Nat → Prop} (ts : TS h m) (t : tf P h h') (hP : ∀ a, P a → m + 7 ≤ a ∧ a ≤ m + 17) : tS m h h' := by
  have n : ∀ a, ¬ (m + 7 ≤ a ∧ a ≤ m + 17) → ¬ P a := fun a q w => q (hP a w)
  exact ⟨ts.tf t, fun a q => ⟨t.I (n a (by omega)), t.J (n a (by omega))⟩, by rw [t.I (n m (by omega))], by rw [t.I (n m (by omega))], by rw [t.I (n m (by omega))], by rw [t.J (n m (by omega))], by rw [t.J (n m (by omega))]⟩
theorem FT.tf {m : Nat} {h h' : AH} {P : Nat → Prop} (t : tf P h h') (hP : ∀ a, P a → m + 7 ≤ a ∧ a ≤ m + 17) : FT m h h' := t.mono (fun a q => by have := hP a q; omega)
theorem whS_cong {τ p p' : Nat → Int} (rg : RG τ) {k : Nat} (hk : (k : Int) < τ 1) (hp : ∀ i : Nat, (i : Int) < τ 0 → p i = p' i) : whS τ p k = whS τ p' k := by
  have h1 := (rg.drv k hk).2.1
  have key : ∀ (n i : Nat) (b : Int × Int), (i : Int) + n ≤ τ 0 → itr (whF τ p k) n i b = itr (whF τ p' k) n i b := by
    intro n
    induction n with
    | zero => intro i b _; rfl
    | succ n ih =>
      intro i b hi
      rw [itr, itr, ih (i + 1) _ (by omega)]
      unfold whF
      rw [hp i (by omega)]
  unfold whS
  rw [key _ _ _ (by have := rg.n; omega), hp _ (by omega)]
theorem op_fills {z m : Nat} (x1 : Int32) : ∀ hC hT, Rx hC hT z m → rm z hC → Ok2 (F_X0_fills hC z x1 (z + 495)) (F_X8_fills hT m x1) (fun a b => VI z m a b ∧ FC z hC a.2 ∧ FT m hT b.2 ∧ Rx a.2 b.2 z m) := by
  intro hC hT ⟨o, x, τ, υ, e, el, lw, r⟩ g
  have hn4 := r.c.rg.n
  have cs := r.cs
  have c := r.c
  have hz := r.hz
  have ts0 := r.tn.s
  have tn := r.tn.wm 5 (iI 0)
  have ti := tn.i
  have ts := tn.s
  have hgi := c.rg.i
  have gr : 1 ≤ hc hC ∧ 6 ≤ hs hC := by have := g.1; have := g.2.1; omega
  obtain ⟨s, rfl, hs⟩ := i_ex x1
  have hd6 := c.rg.d
  unfold F_X0_fills F_X1_fills B_X0_fills_12 F_X8_fills
  have e2 := within_eq (wI hT m 5 (iI 0)) (a := s) (b := 0) (c := τ 1 - 1) (by omega) (by omega) (by omega)
  have e3 := isIn_eq hC (a := s) (b := 0) (c := τ 1 - 1) (by omega) (by omega) (by omega)
  by_cases q : 0 ≤ s ∧ s ≤ τ 1 - 1
  · rw [b2_t q] at e2 e3
    obtain ⟨w2, u1, u3, u4⟩ := asNow_eq c cs hz r.ow (by omega)
    obtain ⟨y2, f1, f3, f4⟩ := present_eq tn hn4
    have P1 : ∀ a, a = z + 275 → scr z a := fun a w => by unfold scr; omega
    have P2 : ∀ a, a = m + 10 → m + 7 ≤ a ∧ a ≤ m + 17 := fun a w => by omega
    have g2 := g.tf u3
    have r2 := (r.scC g.2.2.2.2 (cS.tf u3 P1))
    have c2 := r2.c
    have cs2 := r2.cs
    have hz2 := r2.hz
    have tn2 := tn.tf f3 (by omega)
    have ts2 := tn2.s
    obtain ⟨k1, k2, -⟩ := c2.dr s.toNat (by omega)
    have k3 := get_eq c2.a1 (i := s) (by omega) k1
    have pr : ∀ i : Nat, (i : Int) < τ 0 → 0 ≤ τ (12 + i) ∧ τ (12 + i) ≤ 99 := fun i hi => c.rg.price i (by omega)
    have e4 := goesTo_eq c2 cs2 hz2 (P := z + 275) (p := fun i => τ (12 + i)) cs2.k275 cs2.l275 u4 pr (k := s.toNat) (by omega)
    have e5 := where_eq tn2 c.rg (p := fun i => τ (12 + i)) (fun i hi => by rw [f4 i (by omega)]; unfold nowS; rw [if_pos hi]) pr (k := s.toNat) (by omega)
    rw [show ((s.toNat : Nat) : Int) = s by omega] at e5
    have wr := whS_rng (p := fun i => τ (12 + i)) c.rg (k := s.toNat) (by omega)
    simp (disch := omega) only [i_lit, i_neg, i_add, i_sub, i_mul, i_ofNat, i_div, i_le, i_lt, i_eq, i_ix, i_inb, i_max, i_min, e_rem, j_lit, j_i, Int.reduceToNat, Int.reduceAdd, Int.reduceSub, Int.reduceMul, Int.reduceNeg, Int.reduceLT, Int.reduceLE, Int.reduceEq, gd_t, gd_T, bd_t, lh_t, on_s, on_n, ec_l, ec_r, if_true, if_false, true_and, and_true, false_and, and_false, true_or, or_true, false_or, or_false, Bool.false_eq_true, b2i_0, b2i_1, bl_0, bl_1, bl_b2, not_true_eq_false, not_false_eq_true, cs.k, hz, c.k, c.r1, c.a1.k, size_eq c.a1, e3, there_t, u1, cs2.k, hz2, c2.k, c2.r1, c2.a1.k, k3, k2, cs2.r275, e4, g2.2.2.1, g2.2.2.2.1, hK_wI, hL_wI, hR_wI, ts0.k, ts0.r1, ts0.k1, ts0.l1, ts0.r2, ts0.k2, ts0.l2, ts0.r3, ts0.k3, ts0.l3, ts0.r4, ts0.k4, ts0.l4, ts0.r5, ts0.k5, ts0.l5, ts0.r6, ts0.k6, ts0.l6, ts0.r7, ts0.k7, ts0.l7, ts0.r8, ts0.k8, ts0.l8, ts0.r9, ts0.k9, ts0.l9, ts0.r10, ts0.k10, ts0.l10, ts0.r11, ts0.k11, ts0.l11, ts0.r12, ts0.k12, ts0.l12, ts0.r13, ts0.k13, ts0.l13, ts0.r14, ts0.k14, ts0.l14, ts0.r15, ts0.k15, ts0.l15, ts0.r16, ts0.k16, ts0.l16, ts0.r17, ts0.k17, ts0.l17, ts0.r18, ts0.k18, ts0.l18, ts0.r19, ts0.k19, ts0.l19, ts0.r20, ts0.k20, ts0.l20, ti, e2, f1, ts2.k, e5]
    refine Ok2.some ⟨⟨?_, fun _ => ?_⟩, FC.tf u3 P1 _ _, (FT.thr _ _ _ _).trans (FT.tf f3 P2), ⟨o, x, τ, υ, e, el, lw, ((r2.out g2 _ _).thr 5 (by omega) (iI 0)).scT (tS.tf tn.s f3 P2)⟩⟩
    · rw [f3.I (by omega), hI_wI, if_pos ⟨rfl, rfl⟩]
    · rw [hJ_wJ, if_pos ⟨rfl, rfl⟩]; first | rfl | exact (j_i (by omega)).symm
  · rw [b2_f q] at e2 e3
    simp (disch := omega) only [i_lit, i_neg, i_add, i_sub, i_mul, i_ofNat, i_div, i_le, i_lt, i_eq, i_ix, i_inb, i_max, i_min, e_rem, j_lit, j_i, Int.reduceToNat, Int.reduceAdd, Int.reduceSub, Int.reduceMul, Int.reduceNeg, Int.reduceLT, Int.reduceLE, Int.reduceEq, gd_t, gd_T, bd_t, lh_t, on_s, on_n, ec_l, ec_r, if_true, if_false, true_and, and_true, false_and, and_false, true_or, or_true, false_or, or_false, Bool.false_eq_true, b2i_0, b2i_1, bl_0, bl_1, bl_b2, not_true_eq_false, not_false_eq_true, cs.k, hz, c.k, c.r1, c.a1.k, size_eq c.a1, e3, there_f gr, ts0.k, ts0.r1, ts0.k1, ts0.l1, ts0.r2, ts0.k2, ts0.l2, ts0.r3, ts0.k3, ts0.l3, ts0.r4, ts0.k4, ts0.l4, ts0.r5, ts0.k5, ts0.l5, ts0.r6, ts0.k6, ts0.l6, ts0.r7, ts0.k7, ts0.l7, ts0.r8, ts0.k8, ts0.l8, ts0.r9, ts0.k9, ts0.l9, ts0.r10, ts0.k10, ts0.l10, ts0.r11, ts0.k11, ts0.l11, ts0.r12, ts0.k12, ts0.l12, ts0.r13, ts0.k13, ts0.l13, ts0.r14, ts0.k14, ts0.l14, ts0.r15, ts0.k15, ts0.l15, ts0.r16, ts0.k16, ts0.l16, ts0.r17, ts0.k17, ts0.l17, ts0.r18, ts0.k18, ts0.l18, ts0.r19, ts0.k19, ts0.l19, ts0.r20, ts0.k20, ts0.l20, ti, hK_wI, hL_wI, hR_wI, e2, fails_eq ts.k, Nat.reduceEqDiff]
    exact Ok2.some ⟨⟨by rw [hI_wI, if_pos ⟨rfl, rfl⟩], fun w => by cases w⟩, FC.nw0 r, (FT.thr _ _ _ _).trans (FT.thr _ _ _ _), ⟨o, x, τ, υ, e, el, lw, ((r.nw0 0 6).thr 5 (by omega) _).thr 5 (by omega) _⟩⟩
