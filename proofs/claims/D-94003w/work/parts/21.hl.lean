/-! PURE HL: told, the call -/
set_option maxRecDepth 100000
theorem op_told {z m : Nat} (x1 x2 x3 x4 : Int32) : ∀ hC hT, Rx hC hT z m → rm z hC → Ok2 (F_X0_told hC z x1 x2 x3 x4 (z + 495)) (F_X8_told hT m x1 x2 x3 x4) (fun a b => VI z m a b ∧ FC z hC a.2 ∧ FT m hT b.2 ∧ Rx a.2 b.2 z m) := by
  intro hC hT ⟨o, x, τ, υ, e, el, lw, r⟩ g
  have hn4 := r.c.rg.n
  have cs := r.cs
  have c := r.c
  have hz := r.hz
  have ts0 := r.tn.s
  have tn := r.tn.wm 5 (iI 0)
  have ti := tn.i
  have ts := tn.s
  have hgi := c.rg.i
  have gr : 1 ≤ hc hC ∧ 6 ≤ hs hC := by have := g.1; have := g.2.1; omega
  obtain ⟨a, rfl, ha⟩ := i_ex x1
  obtain ⟨b, rfl, hb⟩ := i_ex x2
  obtain ⟨cc, rfl, hcc⟩ := i_ex x3
  obtain ⟨d, rfl, hd⟩ := i_ex x4
  have ht60 := c.rg.t
  have hnz := r.hnz
  have hg1 := g.1
  have hg2 := g.2.1
  have hm := r.m
  by_cases q0 : τ 0 ≤ 0
  · have t0 : (τ 0 = 0) = True := eq_true (by omega)
    simp (disch := omega) only [i_lit, i_neg, i_add, i_sub, i_mul, i_ofNat, i_div, i_le, i_lt, i_eq, i_ix, i_inb, i_max, i_min, e_rem, j_lit, j_i, Int.reduceToNat, Int.reduceAdd, Int.reduceSub, Int.reduceMul, Int.reduceNeg, Int.reduceLT, Int.reduceLE, Int.reduceEq, gd_t, gd_T, ↓bd_m, ↓lh_t, ↓on_m, ↓ec_m, ↓reduceIte, if_true, if_false, true_and, and_true, false_and, and_false, true_or, or_true, false_or, or_false, Bool.false_eq_true, b2i_0, b2i_1, bl_0, bl_1, bl_b2, not_true_eq_false, not_false_eq_true, F_X0_told, F_X1_told, B_X1_told_15, B_X0_told_17, F_X8_told, B_X8_told_5, cs.k, hz, c.k, many_eq c, q0, can_f gr, ts0.k, ts0.r1, ts0.k1, ts0.l1, ts0.r2, ts0.k2, ts0.l2, ts0.r3, ts0.k3, ts0.l3, ts0.r4, ts0.k4, ts0.l4, ts0.r5, ts0.k5, ts0.l5, ts0.r6, ts0.k6, ts0.l6, ts0.r7, ts0.k7, ts0.l7, ts0.r8, ts0.k8, ts0.l8, ts0.r9, ts0.k9, ts0.l9, ts0.r10, ts0.k10, ts0.l10, ts0.r11, ts0.k11, ts0.l11, ts0.r12, ts0.k12, ts0.l12, ts0.r13, ts0.k13, ts0.l13, ts0.r14, ts0.k14, ts0.l14, ts0.r15, ts0.k15, ts0.l15, ts0.r16, ts0.k16, ts0.l16, ts0.r17, ts0.k17, ts0.l17, ts0.r18, ts0.k18, ts0.l18, ts0.r19, ts0.k19, ts0.l19, ts0.r20, ts0.k20, ts0.l20, ti, t0, hK_wI, hL_wI, hR_wI, fails_eq ts.k, Nat.reduceEqDiff]
    exact Ok2.some (r.bad _ (by decide))
  · have t0 : (τ 0 = 0) = False := eq_false (by omega)
    have hv : ∀ i, i31 (tV a b cc d i) := fun i => by unfold tV; split; exact ha; split; exact hb; split; exact hcc; exact hd
    obtain ⟨hD, eD, nD, cD, sD2, sD, kD, lD, vD, rD⟩ := row4 r g a b cc d
    have g4 : 0 ≤ (4 : Int32).toInt ∧ ix 4 ≤ 1000000 ∧ 1 ≤ hc hC ∧ ix 4 ≤ hs hC := ⟨by decide, by decide, by omega, by show 4 ≤ hs hC; omega⟩
    have e4 : (Int32.toNatClampNeg 4) = 4 := rfl
    have csD := rD.cs
    have cD' := rD.c
    have hzD := rD.hz
    have kn0 : ∀ v, hK (wI (nw hC 100 4 4) (hn hC) 0 v) (hn hC) = 100 := fun v => by rw [hK_wI, hK_nw, if_pos rfl]
    have ln0 : ∀ v, hL (wI (nw hC 100 4 4) (hn hC) 0 v) (hn hC) = 4 := fun v => by rw [hL_wI, hL_nw, if_pos rfl]
    have kn : hK (nw hC 100 4 4) (hn hC) = 100 := by rw [hK_nw, if_pos rfl]
    have ln : hL (nw hC 100 4 4) (hn hC) = 4 := by rw [hL_nw, if_pos rfl]
    -- the component up to its check
    have cC : ∀ {E : Option (ER Int32) → Prop}, E (G_X1_told_43 hD z (hn hC) (iI 0)) → E (F_X1_told hC z (iI a) (iI b) (iI cc) (iI d)) := fun {E} HE => by
      unfold F_X1_told B_X1_told_15
      simp (disch := omega) only [i_lit, i_neg, i_add, i_sub, i_mul, i_ofNat, i_div, i_le, i_lt, i_eq, i_ix, i_inb, i_max, i_min, e_rem, j_lit, j_i, Int.reduceToNat, Int.reduceAdd, Int.reduceSub, Int.reduceMul, Int.reduceNeg, Int.reduceLT, Int.reduceLE, Int.reduceEq, gd_t, gd_T, ↓bd_m, ↓lh_t, ↓on_m, ↓ec_m, ↓reduceIte, if_true, if_false, true_and, and_true, false_and, and_false, true_or, or_true, false_or, or_false, Bool.false_eq_true, b2i_0, b2i_1, bl_0, bl_1, bl_b2, not_true_eq_false, not_false_eq_true, cs.k, hz, c.k, many_eq c, q0, can_t]
      unfold B_X1_told_25 B_X1_told_29 B_X1_told_33 B_X1_told_38
      simp only [lh_t]
      have ix0 : Int32.toNatClampNeg (iI 0) = 0 := rfl
      have ix1 : Int32.toNatClampNeg (iI 1) = 1 := rfl
      have ix2 : Int32.toNatClampNeg (iI 2) = 2 := rfl
      have ix3 : Int32.toNatClampNeg (iI 3) = 3 := rfl
      have ix4 : Int32.toNatClampNeg (iI 4) = 4 := rfl
      have i4 : (iI 4).toInt = 4 := rfl
      simp (disch := omega) only [i_lit, i_neg, i_add, i_sub, i_mul, i_ofNat, i_div, i_le, i_lt, i_eq, i_ix, i_inb, i_max, i_min, e_rem, j_lit, j_i, Int.reduceToNat, Int.reduceAdd, Int.reduceSub, Int.reduceMul, Int.reduceNeg, Int.reduceLT, Int.reduceLE, Int.reduceEq, gd_t, gd_T, ↓bd_m, ↓lh_t, ↓on_m, ↓ec_m, ↓reduceIte, if_true, if_false, true_and, and_true, false_and, and_false, true_or, or_true, false_or, or_false, Bool.false_eq_true, b2i_0, b2i_1, bl_0, bl_1, bl_b2, not_true_eq_false, not_false_eq_true, ix4, i4, kn, ln, hK_wI, hL_wI, eD]
      exact HE
    have rT : ∀ {α : Type} (X : Option α) (R : α → Int32 × AH → Prop), (tAll (τ 0) a b cc d → Ok2 X (B_X8_told_91 (wI hT m 5 (iI 0)) m (iI a) (iI b) (iI cc) (iI d)) R) → (¬ tAll (τ 0) a b cc d → Ok2 X (B_X8_told_79 (wI hT m 5 (iI 0)) m) R) → Ok2 X (F_X8_told hT m (iI a) (iI b) (iI cc) (iI d)) R := fun X R H1 H2 => by
      unfold F_X8_told B_X8_told_5
      simp (disch := omega) only [i_lit, i_neg, i_add, i_sub, i_mul, i_ofNat, i_div, i_le, i_lt, i_eq, i_ix, i_inb, i_max, i_min, e_rem, j_lit, j_i, Int.reduceToNat, Int.reduceAdd, Int.reduceSub, Int.reduceMul, Int.reduceNeg, Int.reduceLT, Int.reduceLE, Int.reduceEq, gd_t, gd_T, ↓bd_m, ↓lh_t, ↓on_m, ↓ec_m, ↓reduceIte, if_true, if_false, true_and, and_true, false_and, and_false, true_or, or_true, false_or, or_false, Bool.false_eq_true, b2i_0, b2i_1, bl_0, bl_1, bl_b2, not_true_eq_false, not_false_eq_true, ts0.k, ts0.r1, ts0.k1, ts0.l1, ts0.r2, ts0.k2, ts0.l2, ts0.r3, ts0.k3, ts0.l3, ts0.r4, ts0.k4, ts0.l4, ts0.r5, ts0.k5, ts0.l5, ts0.r6, ts0.k6, ts0.l6, ts0.r7, ts0.k7, ts0.l7, ts0.r8, ts0.k8, ts0.l8, ts0.r9, ts0.k9, ts0.l9, ts0.r10, ts0.k10, ts0.l10, ts0.r11, ts0.k11, ts0.l11, ts0.r12, ts0.k12, ts0.l12, ts0.r13, ts0.k13, ts0.l13, ts0.r14, ts0.k14, ts0.l14, ts0.r15, ts0.k15, ts0.l15, ts0.r16, ts0.k16, ts0.l16, ts0.r17, ts0.k17, ts0.l17, ts0.r18, ts0.k18, ts0.l18, ts0.r19, ts0.k19, ts0.l19, ts0.r20, ts0.k20, ts0.l20, ti, t0, hK_wI, hL_wI, hR_wI]
      exact chkT tn hn4 ha hb hcc hd (E := fun Y => Ok2 X Y R) H1 H2
    unfold F_X0_told
    rw [gd_t _ cs.k]
    refine cC (E := fun X => Ok2 (ec X _ _) _ _) ?_
    refine chkC cD' csD hzD kD lD (v := tV a b cc d) (fun s hs => ⟨vD s hs, hv s⟩) (by omega) (E := fun X => Ok2 (ec X _ _) _ _) (fun hA => ?_) (fun hA => ?_)
    · refine rT _ _ (fun _ => ?_) (fun u => absurd hA u)
      by_cases q1 : τ 5 = 60
      · have tT : (τ 5 = 60) = True := eq_true q1
        have so : sm hC hD (z + 495) := sD _ (by omega)
        have ko : hK hD (z + 495) = 102 := by rw [so.1]; exact g.2.2.1
        have lo : hL hD (z + 495) = 1 := by rw [so.2.1]; exact g.2.2.2.1
        simp (disch := omega) only [i_lit, i_neg, i_add, i_sub, i_mul, i_ofNat, i_div, i_le, i_lt, i_eq, i_ix, i_inb, i_max, i_min, e_rem, j_lit, j_i, Int.reduceToNat, Int.reduceAdd, Int.reduceSub, Int.reduceMul, Int.reduceNeg, Int.reduceLT, Int.reduceLE, Int.reduceEq, gd_t, gd_T, ↓bd_m, ↓lh_t, ↓on_m, ↓ec_m, ↓reduceIte, if_true, if_false, true_and, and_true, false_and, and_false, true_or, or_true, false_or, or_false, Bool.false_eq_true, b2i_0, b2i_1, bl_0, bl_1, bl_b2, not_true_eq_false, not_false_eq_true, B_X1_told_77, B_X8_told_91, csD.k, hzD, many_eq cD', cD'.k, cD'.i9, cD'.i10, cD'.r0, cD'.r1, cD'.r2, cD'.r3, cD'.r4, cD'.r5, cD'.r6, cD'.r7, cD'.r8, cD'.a0.k, cD'.a1.k, cD'.a2.k, cD'.a3.k, cD'.a4.k, size_eq cD'.a0, size_eq cD'.a1, size_eq cD'.a2, size_eq cD'.a3, size_eq cD'.a4, cD'.kb, cD'.lb, cD'.kl, cD'.ll, cD'.kw, cD'.lw_, cD'.kL, cD'.l, tT, ko, lo, ts0.k, ts0.r1, ts0.k1, ts0.l1, ts0.r2, ts0.k2, ts0.l2, ts0.r3, ts0.k3, ts0.l3, ts0.r4, ts0.k4, ts0.l4, ts0.r5, ts0.k5, ts0.l5, ts0.r6, ts0.k6, ts0.l6, ts0.r7, ts0.k7, ts0.l7, ts0.r8, ts0.k8, ts0.l8, ts0.r9, ts0.k9, ts0.l9, ts0.r10, ts0.k10, ts0.l10, ts0.r11, ts0.k11, ts0.l11, ts0.r12, ts0.k12, ts0.l12, ts0.r13, ts0.k13, ts0.l13, ts0.r14, ts0.k14, ts0.l14, ts0.r15, ts0.k15, ts0.l15, ts0.r16, ts0.k16, ts0.l16, ts0.r17, ts0.k17, ts0.l17, ts0.r18, ts0.k18, ts0.l18, ts0.r19, ts0.k19, ts0.l19, ts0.r20, ts0.k20, ts0.l20, ti, hK_wI, hL_wI, hR_wI]
        refine Ok2.some ⟨⟨?_, fun _ => ?_⟩, FCown (fun u h1 h2 => sD u (by omega)) (by omega) (by omega) (by omega) _ _, FT.thr _ _ _ _, ⟨o, x, τ, υ, e, el, lw, (rD.outk (fun u h1 h2 => by rw [(sD u (by omega)).1]; exact g.2.2.2.2 u h1 h2) _ _).thr 5 (by omega) _⟩⟩
        · rw [hI5]
        · rw [hJ_wJ, if_pos ⟨rfl, rfl⟩]; exact (j_i (by omega)).symm
      · have tF : (τ 5 = 60) = False := eq_false q1
        obtain ⟨n, hn5⟩ := Int.eq_ofNat_of_zero_le ht60.1
        obtain ⟨gT, k1, T2, tn'⟩ := toldT tn hn4 hn5 (by omega) ha hb hcc hd
        have d3 : ∀ u, hn hD ≤ u → hK hD u = 0 := fun u q => by rw [(sD u (by omega)).1]; exact (r.ho u (by omega)).1
        have d4 : ∀ u, hn hC ≤ u → hK hD u ≠ 120 := fun u q => by
          by_cases w : u = hn hC
          · rw [w, kD]; omega
          · rw [d3 u (by omega)]; omega
        obtain ⟨hC', e', h1, h2, h3, h4⟩ := r.call4 (hD := hD) (D := hn hC) ⟨Nat.le_refl _, by omega⟩ (fun u q => sD u (by omega)) d3 (by rw [kD]; unfold okE; omega) (by omega)
        have h2' := h2
        obtain ⟨w1, w2, w3, w4, w5, w6, w7, w8, w9, w10, w11, w12, w13, w14, w15⟩ := h2
        have sz := h3 z (by omega) (by rw [r.ow z (Or.inl rfl)]; omega)
        have lt : ∀ u, o u ≠ 0 → u < hn hC := fun u ha => Nat.lt_of_not_le fun q => ha (r.ho u q).2
        have lx5 := lt (x + 5) (by rw [c.ox 5 (by omega) (by omega)]; omega)
        have ke : hK hC (e 4) = 108 ∨ hK hC (e 4) = 120 := by rcases c.a4.c with w | w <;> omega
        have le4 : e 4 < hn hC := Nat.lt_of_not_le fun q => by have := (r.ho _ q).1; omega
        have sDD : sm hD hC' (hn hC) := w10 (hn hC) (by omega) (by omega) (by omega)
        have kz' : hK hC' z = 1 := by rw [sz.1]; exact cs.k
        have rz' : hR hC' z 0 = some x := by rw [sz.2.2.2.2]; exact hz
        have kx' : hK hC' x = 2 := by rw [h4.1]; exact c.k
        have rx' : hR hC' x 4 = some (x + 5) := by rw [h4.2.2.2.2]; exact c.r4
        have so : sm hC hC' (z + 495) := h3 _ (by omega) (by rw [r.ow _ (Or.inr ⟨by omega, by omega⟩)]; omega)
        have ko : hK hC' (z + 495) = 102 := by rw [so.1]; exact g.2.2.1
        have lo : hL hC' (z + 495) = 1 := by rw [so.2.1]; exact g.2.2.2.1
        have sW : ∀ u, z + 474 ≤ u → u ≤ z + 495 → sm hC hC' u := fun u q1 q2 => h3 u (by omega) (by rw [r.ow u (Or.inr ⟨by omega, by omega⟩)]; omega)
        simp (disch := omega) only [i_lit, i_neg, i_add, i_sub, i_mul, i_ofNat, i_div, i_le, i_lt, i_eq, i_ix, i_inb, i_max, i_min, e_rem, j_lit, j_i, Int.reduceToNat, Int.reduceAdd, Int.reduceSub, Int.reduceMul, Int.reduceNeg, Int.reduceLT, Int.reduceLE, Int.reduceEq, gd_t, gd_T, ↓bd_m, ↓lh_t, ↓on_m, ↓ec_m, ↓reduceIte, if_true, if_false, true_and, and_true, false_and, and_false, true_or, or_true, false_or, or_false, Bool.false_eq_true, b2i_0, b2i_1, bl_0, bl_1, bl_b2, not_true_eq_false, not_false_eq_true, B_X1_told_77, B_X8_told_91, csD.k, hzD, many_eq cD', cD'.k, cD'.i9, cD'.i10, cD'.r0, cD'.r1, cD'.r2, cD'.r3, cD'.r4, cD'.r5, cD'.r6, cD'.r7, cD'.r8, cD'.a0.k, cD'.a1.k, cD'.a2.k, cD'.a3.k, cD'.a4.k, size_eq cD'.a0, size_eq cD'.a1, size_eq cD'.a2, size_eq cD'.a3, size_eq cD'.a4, cD'.kb, cD'.lb, cD'.kl, cD'.ll, cD'.kw, cD'.lw_, cD'.kL, cD'.l, tF, h1, kz', rz', kx', rx', w1.k, size_eq w1, ko, lo, ts0.k, ts0.r1, ts0.k1, ts0.l1, ts0.r2, ts0.k2, ts0.l2, ts0.r3, ts0.k3, ts0.l3, ts0.r4, ts0.k4, ts0.l4, ts0.r5, ts0.k5, ts0.l5, ts0.r6, ts0.k6, ts0.l6, ts0.r7, ts0.k7, ts0.l7, ts0.r8, ts0.k8, ts0.l8, ts0.r9, ts0.k9, ts0.l9, ts0.r10, ts0.k10, ts0.l10, ts0.r11, ts0.k11, ts0.l11, ts0.r12, ts0.k12, ts0.l12, ts0.r13, ts0.k13, ts0.l13, ts0.r14, ts0.k14, ts0.l14, ts0.r15, ts0.k15, ts0.l15, ts0.r16, ts0.k16, ts0.l16, ts0.r17, ts0.k17, ts0.l17, ts0.r18, ts0.k18, ts0.l18, ts0.r19, ts0.k19, ts0.l19, ts0.r20, ts0.k20, ts0.l20, ti, hK_wI, hL_wI, hR_wI, k1]
        generalize hτ' : upT (tdT τ a b cc d n (τ 0).toNat) 5 ((n : Int) + 1) = τ' at tn'
        have nn : (τ 5).toNat = n := by omega
        have hτ : ∀ i, ¬ (i = 5 ∨ (2909 + 4 * (τ 5).toNat ≤ i ∧ i ≤ 2912 + 4 * (τ 5).toNat)) → τ' i = τ i := fun i hi => by
          rw [← hτ', upT_o (by omega)]
          unfold tdT
          rw [if_neg (by omega)]
        have y5 : τ' 5 = τ 5 + 1 := by rw [← hτ', upT_s, hn5]
        have y0 : ∀ s : Nat, (s : Int) < τ 0 → τ' (2909 + 4 * (τ 5).toNat + s) = tV a b cc d s := fun s hs => by
          rw [← hτ', upT_o (by omega)]
          unfold tdT
          rw [if_pos (by omega), show 2909 + 4 * (τ 5).toNat + s - (2909 + 4 * n) = s by omega]
        have rg' : RG τ' := ⟨by rw [hτ 0 (by omega)]; exact c.rg.n,
    by rw [hτ 1 (by omega)]; exact c.rg.d,
    by rw [hτ 2 (by omega)]; exact c.rg.h,
    by rw [hτ 3 (by omega)]; exact c.rg.l,
    by rw [hτ 4 (by omega)]; exact c.rg.r,
    by rw [y5]; omega,
    by rw [hτ 6 (by omega)]; exact c.rg.c,
    fun i hi => by rw [hτ _ (by omega)]; exact c.rg.cost i hi,
    fun i hi => by rw [hτ _ (by omega)]; exact c.rg.price i hi,
    fun i hi => by rw [hτ _ (by omega)]; exact c.rg.late i hi,
    fun i hi => by rw [hτ _ (by omega)]; exact c.rg.first i hi,
    fun i hi => by rw [hτ 0 (by omega)] at hi; have := c.rg.n; rw [hτ (24 + i) (by omega), hτ 2 (by omega)]; exact c.rg.chg i hi,
    fun k hk => by rw [hτ 1 (by omega)] at hk; have := c.rg.d; rw [hτ (28 + 4 * k) (by omega), hτ (29 + 4 * k) (by omega), hτ (30 + 4 * k) (by omega), hτ (31 + 4 * k) (by omega), hτ 0 (by omega)]; exact c.rg.drv k hk,
    fun i hi => by rw [hτ _ (by omega)]; exact c.rg.lev i hi,
    fun i hi => by rw [hτ 4 (by omega)] at hi; have := c.rg.r; rw [hτ _ (by omega)]; exact c.rg.rise i hi,
    fun i hi => by rw [hτ _ (by omega)]; exact c.rg.wgt i hi,
    by rw [hτ 120 (by omega)]; exact c.rg.once,
    by rw [hτ 121 (by omega)]; exact c.rg.at,
    by rw [hτ 122 (by omega)]; exact c.rg.cap,
    by rw [hτ 123 (by omega)]; exact c.rg.told,
    by rw [hτ 124 (by omega)]; exact c.rg.byc,
    fun i hi => by rw [hτ _ (by omega)]; exact c.rg.brd i hi,
    fun i hi => by
                by_cases q : 2909 + 4 * n ≤ 2909 + i ∧ 2909 + i < 2909 + 4 * n + (τ 0).toNat
                · have := hA (i - 4 * n) (by omega)
                  rw [show 2909 + i = 2909 + 4 * (τ 5).toNat + (i - 4 * n) by omega, y0 _ (by omega)]
                  exact this
                · have : τ' (2909 + i) = τ (2909 + i) := by
                    rw [← hτ', upT_o (by omega)]
                    unfold tdT
                    rw [if_neg q]
                  rw [this]
                  exact c.rg.row i hi,
    fun k hk => by rw [hτ 6 (by omega)] at hk; have := c.rg.c; rw [hτ (3149 + 3 * k) (by omega), hτ (3150 + 3 * k) (by omega), hτ (3151 + 3 * k) (by omega)]; exact c.rg.chn k hk,
    tn'.g⟩
        have rr := (r.thr 5 (by omega) (iI 0)).add4 (hD := hD) (hC' := hC') (n := τ 5) (D := hn hC) (e' := e') rfl (by omega) ⟨Nat.le_refl _, by omega⟩ (fun u q => sD u (by omega)) d3 d4 h2' hτ y5 ⟨by rw [sDD.1]; exact kD, trivial, by rw [sDD.2.1]; exact lD, fun s hs => by
          rw [hτ 0 (by omega)] at hs
          rw [sDD.2.2.1, y0 s hs]
          exact vD s (by omega)⟩ rg' T2 tn'
        refine Ok2.some ⟨⟨?_, fun _ => ?_⟩, FCown sW (by omega) (by omega) (by omega) _ _, (FT.thr _ _ _ _).trans (T2.mono (fun u q => by omega)), ⟨_, x, τ', υ, _, _, lw, rr.outk (fun u h1 h2 => by rw [(sW u h1 h2).1]; exact g.2.2.2.2 u h1 h2) _ _⟩⟩
        · show _ = hI gT m 5
          rw [T2.I (by omega), hI5]
        · show hJ (wJ _ _ _ _) _ _ = _
          rw [hJ_wJ, if_pos ⟨rfl, rfl⟩, hn5]
          exact (j_i (by omega)).symm
    · refine rT _ _ (fun u => absurd u hA) (fun _ => ?_)
      simp (disch := omega) only [i_lit, i_neg, i_add, i_sub, i_mul, i_ofNat, i_div, i_le, i_lt, i_eq, i_ix, i_inb, i_max, i_min, e_rem, j_lit, j_i, Int.reduceToNat, Int.reduceAdd, Int.reduceSub, Int.reduceMul, Int.reduceNeg, Int.reduceLT, Int.reduceLE, Int.reduceEq, gd_t, gd_T, ↓bd_m, ↓lh_t, ↓on_m, ↓ec_m, ↓reduceIte, if_true, if_false, true_and, and_true, false_and, and_false, true_or, or_true, false_or, or_false, Bool.false_eq_true, b2i_0, b2i_1, bl_0, bl_1, bl_b2, not_true_eq_false, not_false_eq_true, B_X0_told_21, B_X8_told_79, ts.k, fails_eq ts.k, Nat.reduceEqDiff]
      have F : FC z hC (nw hD 0 0 6) := ⟨⟨by rw [hn_nw]; omega, by rw [hc_nw]; omega, by rw [hs_nw]; omega⟩, fun u q1 q2 => (sD u (by omega)).trans (sm_nw (by omega)), by rw [hK_nw, if_neg (by omega), (sD _ (by omega)).1], by rw [hL_nw, if_neg (by omega), (sD _ (by omega)).2.1]⟩
      exact Ok2.some ⟨⟨by rw [hI5], fun w => absurd (show (iI 2 : Int32) = 0 from w) (by decide)⟩, F, (FT.thr _ _ _ _).trans (FT.thr _ _ _ _), ⟨o, x, τ, υ, e, el, lw, ((rD.nw0 0 6).thr 5 (by omega) _).thr 5 (by omega) _⟩⟩
