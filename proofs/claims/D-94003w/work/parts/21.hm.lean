/-! PURE HM: rise -/
set_option maxRecDepth 100000
def rV (a b c : Int) (s : Nat) : Int := if s = 0 then a else if s = 1 then b else c
/-- a new row of three -/
theorem row3 {o : Nat → Nat} {hC hT : AH} {z m x : Nat} {τ : Nat → Int} {υ : Nat → Int64} {e : Nat → Nat} {el : Nat → Nat → Nat} {lw : Nat} (r : RL o hC hT z m x τ υ e el lw) (g : rm z hC) (a b c : Int) : ∃ hD, wI (wI (wI (nw hC 100 3 3) (hn hC) 0 (iI a)) (hn hC) 1 (iI b)) (hn hC) 2 (iI c) = hD ∧ hn hD = hn hC + 1 ∧ hc hD = hc hC - 1 ∧ hs hD = hs hC - 3 ∧ (∀ u, u ≠ hn hC → sm hC hD u) ∧ hK hD (hn hC) = 100 ∧ hL hD (hn hC) = 3 ∧ (∀ s, s < 3 → hI hD (hn hC) s = iI (rV a b c s)) ∧ RL o hD hT z m x τ υ e el lw := by
  generalize hH : wI (wI (wI (nw hC 100 3 3) (hn hC) 0 (iI a)) (hn hC) 1 (iI b)) (hn hC) 2 (iI c) = hD
  have sD : ∀ u, u ≠ hn hC → sm hC hD u := fun u ha => by rw [← hH]; exact (sm_nw ha).trans ((sm_wI ha).trans ((sm_wI ha).trans (sm_wI ha)))
  have kD : hK hD (hn hC) = 100 := by rw [← hH]; show hK (nw hC 100 3 3) (hn hC) = 100; rw [hK_nw, if_pos rfl]
  have nD : hn hD = hn hC + 1 := by rw [← hH]; rfl
  refine ⟨hD, rfl, nD, by rw [← hH]; rfl, by rw [← hH]; rfl, sD, kD, ?_, fun s hs => ?_, ?_⟩
  · rw [← hH]; show hL (nw hC 100 3 3) (hn hC) = 3; rw [hL_nw, if_pos rfl]
  · rw [← hH]
    rcases (show s = 0 ∨ s = 1 ∨ s = 2 by omega) with rfl | rfl | rfl
    · rw [hI_wI, if_neg (by omega), hI_wI, if_neg (by omega), hI_wI, if_pos ⟨rfl, rfl⟩]; rfl
    · rw [hI_wI, if_neg (by omega), hI_wI, if_pos ⟨rfl, rfl⟩]; rfl
    · rw [hI_wI, if_pos ⟨rfl, rfl⟩]; rfl
  · refine r.grow (fun u q => sD u (by omega)) (by omega) (fun u q => by rw [(sD u (by omega)).1]; exact (r.ho u (by omega)).1) (fun u q => ?_)
    by_cases w : u = hn hC
    · rw [w, kD]; omega
    · rw [(sD u w).1, (r.ho u q).1]; omega
/-- how the lags end -/
def rEnd (a b c : Int) (B : Int32 → Option (ER Int32)) (X : Option (ER Int32)) : Option (ER Int32) → Prop := fun Y => (¬ (0 ≤ a ∧ a ≤ 20) → Y = X) ∧ ((0 ≤ a ∧ a ≤ 20) → (b = -1 → Y = B (iI 1)) ∧ (b ≠ -1 → (¬ (0 ≤ b ∧ b ≤ 20) → Y = X) ∧ ((0 ≤ b ∧ b ≤ 20) → (c = -1 → Y = B (iI 2)) ∧ (c ≠ -1 → (¬ (0 ≤ c ∧ c ≤ 20) → Y = X) ∧ ((0 ≤ c ∧ c ≤ 20) → Y = B (iI 3))))))
theorem riseC {h : AH} {z D : Nat} (kD : hK h D = 100) (lD : hL h D = 3) {a b c : Int} (ha : i31 a) (hb : i31 b) (hcc : i31 c) (v0 : hI h D 0 = iI a) (v1 : hI h D 1 = iI b) (v2 : hI h D 2 = iI c) (g : 1 ≤ hc h ∧ 6 ≤ hs h) (n : Nat) : rEnd a b c (B_X1_rise_64 h z D) (some (.inr (2, hn h, nw h 0 0 6))) (lp (L_X1_rise_20 h) (n + 1 + 1 + 1 + 1) (h, z, D, iI 0)) := by
  have e1 := isIn_eq h (a := a) (b := 0) (c := 20) (by omega) (by omega) (by omega)
  have e2 := isIn_eq h (a := b) (b := 0) (c := 20) (by omega) (by omega) (by omega)
  have e3 := isIn_eq h (a := c) (b := 0) (c := 20) (by omega) (by omega) (by omega)
  have n3 : (((3 : Nat) : Int) ≤ 0) = False := eq_false (by omega)
  have n31 : (((3 : Nat) : Int) ≤ 1) = False := eq_false (by omega)
  have n32 : (((3 : Nat) : Int) ≤ 2) = False := eq_false (by omega)
  have n33 : (((3 : Nat) : Int) ≤ 3) = True := eq_true (by omega)
  unfold rEnd
  refine ⟨fun q => ?_, fun q => ⟨fun q1 => ?_, fun q1 => ⟨fun q2 => ?_, fun q2 => ⟨fun q3 => ?_, fun q3 => ⟨fun q4 => ?_, fun q4 => ?_⟩⟩⟩⟩⟩
  · rw [b2_f q] at e1
    rw [lp_s]
    show B_X1_rise_20 h (fun h_1 a0 a4 x5 => lp (L_X1_rise_20 h) (n + 1 + 1 + 1) (h_1, a0, a4, x5)) z D (iI 0) = _
    simp (disch := omega) only [i_lit, i_neg, i_add, i_sub, i_mul, i_ofNat, i_div, i_le, i_lt, i_eq, i_ix, i_inb, i_max, i_min, e_rem, j_lit, j_i, Int.reduceToNat, Int.reduceAdd, Int.reduceSub, Int.reduceMul, Int.reduceNeg, Int.reduceLT, Int.reduceLE, Int.reduceEq, gd_t, gd_T, ↓bd_m, ↓lh_t, ↓on_m, ↓ec_m, ↓reduceIte, if_true, if_false, true_and, and_true, false_and, and_false, true_or, or_true, false_or, or_false, Bool.false_eq_true, b2i_0, b2i_1, bl_0, bl_1, bl_b2, not_true_eq_false, not_false_eq_true, B_X1_rise_20, B_X1_rise_42, kD, lD, n3, v0, e1, right_f g]
  all_goals
    rw [b2_t q] at e1
    rw [lp_s]
    show B_X1_rise_20 h (fun h_1 a0 a4 x5 => lp (L_X1_rise_20 h) (n + 1 + 1 + 1) (h_1, a0, a4, x5)) z D (iI 0) = _
    simp (disch := omega) only [i_lit, i_neg, i_add, i_sub, i_mul, i_ofNat, i_div, i_le, i_lt, i_eq, i_ix, i_inb, i_max, i_min, e_rem, j_lit, j_i, Int.reduceToNat, Int.reduceAdd, Int.reduceSub, Int.reduceMul, Int.reduceNeg, Int.reduceLT, Int.reduceLE, Int.reduceEq, gd_t, gd_T, ↓bd_m, ↓lh_t, ↓on_m, ↓ec_m, ↓reduceIte, if_true, if_false, true_and, and_true, false_and, and_false, true_or, or_true, false_or, or_false, Bool.false_eq_true, b2i_0, b2i_1, bl_0, bl_1, bl_b2, not_true_eq_false, not_false_eq_true, B_X1_rise_20, B_X1_rise_42, kD, lD, n3, v0, e1, right_t]
    rw [lp_s]
    show B_X1_rise_20 h (fun h_1 a0 a4 x5 => lp (L_X1_rise_20 h) (n + 1 + 1) (h_1, a0, a4, x5)) z D (iI 1) = _
  · simp (disch := omega) only [i_lit, i_neg, i_add, i_sub, i_mul, i_ofNat, i_div, i_le, i_lt, i_eq, i_ix, i_inb, i_max, i_min, e_rem, j_lit, j_i, Int.reduceToNat, Int.reduceAdd, Int.reduceSub, Int.reduceMul, Int.reduceNeg, Int.reduceLT, Int.reduceLE, Int.reduceEq, gd_t, gd_T, ↓bd_m, ↓lh_t, ↓on_m, ↓ec_m, ↓reduceIte, if_true, if_false, true_and, and_true, false_and, and_false, true_or, or_true, false_or, or_false, Bool.false_eq_true, b2i_0, b2i_1, bl_0, bl_1, bl_b2, not_true_eq_false, not_false_eq_true, B_X1_rise_20, kD, lD, n31, v1, q1]
  all_goals have q1F : (b = -1) = False := eq_false q1
  · rw [b2_f q2] at e2
    simp (disch := omega) only [i_lit, i_neg, i_add, i_sub, i_mul, i_ofNat, i_div, i_le, i_lt, i_eq, i_ix, i_inb, i_max, i_min, e_rem, j_lit, j_i, Int.reduceToNat, Int.reduceAdd, Int.reduceSub, Int.reduceMul, Int.reduceNeg, Int.reduceLT, Int.reduceLE, Int.reduceEq, gd_t, gd_T, ↓bd_m, ↓lh_t, ↓on_m, ↓ec_m, ↓reduceIte, if_true, if_false, true_and, and_true, false_and, and_false, true_or, or_true, false_or, or_false, Bool.false_eq_true, b2i_0, b2i_1, bl_0, bl_1, bl_b2, not_true_eq_false, not_false_eq_true, B_X1_rise_20, B_X1_rise_42, kD, lD, n31, v1, q1F, e2, right_f g]
  all_goals
    rw [b2_t q2] at e2
    simp (disch := omega) only [i_lit, i_neg, i_add, i_sub, i_mul, i_ofNat, i_div, i_le, i_lt, i_eq, i_ix, i_inb, i_max, i_min, e_rem, j_lit, j_i, Int.reduceToNat, Int.reduceAdd, Int.reduceSub, Int.reduceMul, Int.reduceNeg, Int.reduceLT, Int.reduceLE, Int.reduceEq, gd_t, gd_T, ↓bd_m, ↓lh_t, ↓on_m, ↓ec_m, ↓reduceIte, if_true, if_false, true_and, and_true, false_and, and_false, true_or, or_true, false_or, or_false, Bool.false_eq_true, b2i_0, b2i_1, bl_0, bl_1, bl_b2, not_true_eq_false, not_false_eq_true, B_X1_rise_20, B_X1_rise_42, kD, lD, n31, v1, q1F, e2, right_t]
    rw [lp_s]
    show B_X1_rise_20 h (fun h_1 a0 a4 x5 => lp (L_X1_rise_20 h) (n + 1) (h_1, a0, a4, x5)) z D (iI 2) = _
  · simp (disch := omega) only [i_lit, i_neg, i_add, i_sub, i_mul, i_ofNat, i_div, i_le, i_lt, i_eq, i_ix, i_inb, i_max, i_min, e_rem, j_lit, j_i, Int.reduceToNat, Int.reduceAdd, Int.reduceSub, Int.reduceMul, Int.reduceNeg, Int.reduceLT, Int.reduceLE, Int.reduceEq, gd_t, gd_T, ↓bd_m, ↓lh_t, ↓on_m, ↓ec_m, ↓reduceIte, if_true, if_false, true_and, and_true, false_and, and_false, true_or, or_true, false_or, or_false, Bool.false_eq_true, b2i_0, b2i_1, bl_0, bl_1, bl_b2, not_true_eq_false, not_false_eq_true, B_X1_rise_20, kD, lD, n32, v2, q3]
  all_goals have q3F : (c = -1) = False := eq_false q3
  · rw [b2_f q4] at e3
    simp (disch := omega) only [i_lit, i_neg, i_add, i_sub, i_mul, i_ofNat, i_div, i_le, i_lt, i_eq, i_ix, i_inb, i_max, i_min, e_rem, j_lit, j_i, Int.reduceToNat, Int.reduceAdd, Int.reduceSub, Int.reduceMul, Int.reduceNeg, Int.reduceLT, Int.reduceLE, Int.reduceEq, gd_t, gd_T, ↓bd_m, ↓lh_t, ↓on_m, ↓ec_m, ↓reduceIte, if_true, if_false, true_and, and_true, false_and, and_false, true_or, or_true, false_or, or_false, Bool.false_eq_true, b2i_0, b2i_1, bl_0, bl_1, bl_b2, not_true_eq_false, not_false_eq_true, B_X1_rise_20, B_X1_rise_42, kD, lD, n32, v2, q3F, e3, right_f g]
  · rw [b2_t q4] at e3
    simp (disch := omega) only [i_lit, i_neg, i_add, i_sub, i_mul, i_ofNat, i_div, i_le, i_lt, i_eq, i_ix, i_inb, i_max, i_min, e_rem, j_lit, j_i, Int.reduceToNat, Int.reduceAdd, Int.reduceSub, Int.reduceMul, Int.reduceNeg, Int.reduceLT, Int.reduceLE, Int.reduceEq, gd_t, gd_T, ↓bd_m, ↓lh_t, ↓on_m, ↓ec_m, ↓reduceIte, if_true, if_false, true_and, and_true, false_and, and_false, true_or, or_true, false_or, or_false, Bool.false_eq_true, b2i_0, b2i_1, bl_0, bl_1, bl_b2, not_true_eq_false, not_false_eq_true, B_X1_rise_20, B_X1_rise_42, kD, lD, n32, v2, q3F, e3, right_t]
    rw [lp_s]
    show B_X1_rise_20 h (fun h_1 a0 a4 x5 => lp (L_X1_rise_20 h) n (h_1, a0, a4, x5)) z D (iI 3) = _
    simp (disch := omega) only [i_lit, i_neg, i_add, i_sub, i_mul, i_ofNat, i_div, i_le, i_lt, i_eq, i_ix, i_inb, i_max, i_min, e_rem, j_lit, j_i, Int.reduceToNat, Int.reduceAdd, Int.reduceSub, Int.reduceMul, Int.reduceNeg, Int.reduceLT, Int.reduceLE, Int.reduceEq, gd_t, gd_T, ↓bd_m, ↓lh_t, ↓on_m, ↓ec_m, ↓reduceIte, if_true, if_false, true_and, and_true, false_and, and_false, true_or, or_true, false_or, or_false, Bool.false_eq_true, b2i_0, b2i_1, bl_0, bl_1, bl_b2, not_true_eq_false, not_false_eq_true, B_X1_rise_20, kD, lD, n33]
theorem isLag_eq (h : AH) {t : Int} (ht : i31 t) : F_X8_isLag h (iI t) = some (b2 (0 ≤ t ∧ t ≤ 20)) := by
  unfold F_X8_isLag
  simp (disch := omega) only [i_lit, i_neg, i_add, i_sub, i_mul, i_ofNat, i_div, i_le, i_lt, i_eq, i_ix, i_inb, i_max, i_min, e_rem, j_lit, j_i, Int.reduceToNat, Int.reduceAdd, Int.reduceSub, Int.reduceMul, Int.reduceNeg, Int.reduceLT, Int.reduceLE, Int.reduceEq, gd_t, gd_T, ↓bd_m, ↓lh_t, ↓on_m, ↓ec_m, ↓reduceIte, if_true, if_false, true_and, and_true, false_and, and_false, true_or, or_true, false_or, or_false, Bool.false_eq_true, b2i_0, b2i_1, bl_0, bl_1, bl_b2, not_true_eq_false, not_false_eq_true, within_eq]
/-- the last part of rise -/
theorem rise_end {o : Nat → Nat} {hC hT : AH} {z m x : Nat} {τ : Nat → Int} {υ : Nat → Int64} {e : Nat → Nat} {el : Nat → Nat → Nat} {lw : Nat} (r : RL o hC hT z m x τ υ e el lw) (g : rm z hC) {hD : AH} (nD : hn hD = hn hC + 1) (cD : hc hD = hc hC - 1) (sD2 : hs hD = hs hC - 3) (sD : ∀ u, u ≠ hn hC → sm hC hD u) (kD : hK hD (hn hC) = 100) (lD : hL hD (hn hC) = 3) {p q w : Int} {k : Nat} (hk : 1 ≤ k ∧ k ≤ 3) (vD : ∀ s, s < k → hI hD (hn hC) s = iI (rV p q w s)) (rD : RL o hD hT z m x τ υ e el lw) (hp : 0 ≤ p ∧ p ≤ 20) (hq : -1 ≤ q ∧ q ≤ 20) (hw : -1 ≤ w ∧ w ≤ 20) (len : k = (if q = -1 then 1 else if w = -1 then 2 else 3)) (qw : q = -1 → w = -1) : Ok2 (ec (B_X1_rise_64 hD z (hn hC) (iI k)) (fun v11 h12 => gd (hK h12 (z + 495) = 102 ∧ inb 0 (hL h12 (z + 495))) (lh (wJ h12 (z + 495) (ix 0) (Int32.toInt64 v11)) fun h17 => some (0, h17))) (fun E13 q_14 h12 => if E13 = 2 then B_X0_rise_15 h12 q_14 else none)) (B_X8_rise_56 (wI hT m 5 (iI 0)) m (iI p) (iI q) (iI w)) (fun a b => VI z m a b ∧ FC z hC a.2 ∧ FT m hT b.2 ∧ Rx a.2 b.2 z m) := by
  have c := r.c
  have cs := r.cs
  have hz := r.hz
  have tn := r.tn.wm 5 (iI 0)
  have ts := tn.s
  have ti := tn.i
  have hr6 := c.rg.r
  have hn4 := c.rg.n
  have hnz := r.hnz
  have hg1 := g.1
  have hg2 := g.2.1
  have hm := r.m
  have csD := rD.cs
  have cD' := rD.c
  have hzD := rD.hz
  by_cases q6 : τ 4 = 6
  · have tT : (τ 4 = 6) = True := eq_true q6
    have so : sm hC hD (z + 495) := sD _ (by omega)
    have ko : hK hD (z + 495) = 102 := by rw [so.1]; exact g.2.2.1
    have lo : hL hD (z + 495) = 1 := by rw [so.2.1]; exact g.2.2.2.1
    simp (disch := omega) only [i_lit, i_neg, i_add, i_sub, i_mul, i_ofNat, i_div, i_le, i_lt, i_eq, i_ix, i_inb, i_max, i_min, e_rem, j_lit, j_i, Int.reduceToNat, Int.reduceAdd, Int.reduceSub, Int.reduceMul, Int.reduceNeg, Int.reduceLT, Int.reduceLE, Int.reduceEq, gd_t, gd_T, ↓bd_m, ↓lh_t, ↓on_m, ↓ec_m, ↓reduceIte, if_true, if_false, true_and, and_true, false_and, and_false, true_or, or_true, false_or, or_false, Bool.false_eq_true, b2i_0, b2i_1, bl_0, bl_1, bl_b2, not_true_eq_false, not_false_eq_true, B_X1_rise_64, B_X8_rise_56, csD.k, hzD, many_eq cD', cD'.k, cD'.i9, cD'.i10, cD'.r0, cD'.r1, cD'.r2, cD'.r3, cD'.r4, cD'.r5, cD'.r6, cD'.r7, cD'.r8, cD'.a0.k, cD'.a1.k, cD'.a2.k, cD'.a3.k, cD'.a4.k, size_eq cD'.a0, size_eq cD'.a1, size_eq cD'.a2, size_eq cD'.a3, size_eq cD'.a4, cD'.kb, cD'.lb, cD'.kl, cD'.ll, cD'.kw, cD'.lw_, cD'.kL, cD'.l, tT, ko, lo, ts.k, ts.r1, ts.k1, ts.l1, ts.r2, ts.k2, ts.l2, ts.r3, ts.k3, ts.l3, ts.r4, ts.k4, ts.l4, ts.r5, ts.k5, ts.l5, ts.r6, ts.k6, ts.l6, ts.r7, ts.k7, ts.l7, ts.r8, ts.k8, ts.l8, ts.r9, ts.k9, ts.l9, ts.r10, ts.k10, ts.l10, ts.r11, ts.k11, ts.l11, ts.r12, ts.k12, ts.l12, ts.r13, ts.k13, ts.l13, ts.r14, ts.k14, ts.l14, ts.r15, ts.k15, ts.l15, ts.r16, ts.k16, ts.l16, ts.r17, ts.k17, ts.l17, ts.r18, ts.k18, ts.l18, ts.r19, ts.k19, ts.l19, ts.r20, ts.k20, ts.l20, ti]
    refine Ok2.some ⟨⟨?_, fun _ => ?_⟩, FCown (fun u h1 h2 => sD u (by omega)) (by omega) (by omega) (by omega) _ _, FT.thr _ _ _ _, ⟨o, x, τ, υ, e, el, lw, (rD.outk (fun u h1 h2 => by rw [(sD u (by omega)).1]; exact g.2.2.2.2 u h1 h2) _ _).thr 5 (by omega) _⟩⟩
    · rw [hI5]
    · rw [hJ_wJ, if_pos ⟨rfl, rfl⟩]; exact (j_i (by omega)).symm
  · have tF : (τ 4 = 6) = False := eq_false q6
    -- the copy
    generalize hE : cpI (nw hD 100 k k) (hn hC) (hn hD) 0 0 k = hE_
    have sE : ∀ u, u ≠ hn hD → sm hD hE_ u := fun u hu => by rw [← hE]; exact (sm_nw hu).trans (sm_cpI hu)
    have kE : hK hE_ (hn hD) = 100 := by rw [← hE]; show hK (nw hD 100 k k) (hn hD) = 100; rw [hK_nw, if_pos rfl]
    have lE : hL hE_ (hn hD) = k := by rw [← hE]; show hL (nw hD 100 k k) (hn hD) = k; rw [hL_nw, if_pos rfl]
    have nE : hn hE_ = hn hD + 1 := by rw [← hE]; rfl
    have cE : hc hE_ = hc hD - 1 := by rw [← hE]; rfl
    have sE2 : hs hE_ = hs hD - k := by rw [← hE]; rfl
    have vE : ∀ s, s < k → hI hE_ (hn hD) s = iI (rV p q w s) := fun s hs => by
      rw [← hE]
      show (if hn hD = hn hD then va_cpy (hI (nw hD 100 k k) (hn hC)) (hI (nw hD 100 k k) (hn hD)) 0 0 k s else _) = _
      rw [if_pos rfl]
      unfold va_cpy
      rw [if_pos (by omega), show 0 + (s - 0) = s by omega, hI_nw, if_neg (by omega)]
      exact vD s hs
    have dS : ∀ u, u < hn hC → sm hC hE_ u := fun u hu => (sD u (by omega)).trans (sE u (by omega))
    have d3 : ∀ u, hn hE_ ≤ u → hK hE_ u = 0 := fun u hu => by rw [(sE u (by omega)).1, (sD u (by omega)).1]; exact (r.ho u (by omega)).1
    have d4 : ∀ u, hn hC ≤ u → hK hE_ u ≠ 120 := fun u hu => by
      by_cases u1 : u = hn hD
      · rw [u1, kE]; omega
      · rw [(sE u u1).1]
        by_cases u2 : u = hn hC
        · rw [u2, kD]; omega
        · rw [(sD u u2).1, (r.ho u hu).1]; omega
    obtain ⟨hC', e', h1, h2, h3, h4⟩ := r.call3 (hD := hE_) (D := hn hD) ⟨by omega, by omega⟩ dS d3 (by rw [kE]; unfold okE; omega) (by omega)
    have h2' := h2
    obtain ⟨w1, w2, w3, w4, w5, w6, w7, w8, w9, w10, w11, w12, w13, w14, w15⟩ := h2
    have sz := h3 z (by omega) (by rw [r.ow z (Or.inl rfl)]; omega)
    have lt : ∀ u, o u ≠ 0 → u < hn hC := fun u ha => Nat.lt_of_not_le fun q => ha (r.ho u q).2
    have lx4 := lt (x + 4) (by rw [c.ox 4 (by omega) (by omega)]; omega)
    have ke : hK hC (e 3) = 108 ∨ hK hC (e 3) = 120 := by rcases c.a3.c with w | w <;> omega
    have le3 : e 3 < hn hC := Nat.lt_of_not_le fun q => by have := (r.ho _ q).1; omega
    have lx : x < hn hC := lt x (by have := c.ox 0 (by omega) (by omega); rw [Nat.add_zero] at this; omega)
    have sDD : sm hE_ hC' (hn hD) := w10 (hn hD) (by omega) (by omega) (by omega)
    have kz' : hK hC' z = 1 := by rw [sz.1]; exact cs.k
    have rz' : hR hC' z 0 = some x := by rw [sz.2.2.2.2]; exact hz
    have kx' : hK hC' x = 2 := by rw [h4.1]; exact c.k
    have rx' : hR hC' x 3 = some (x + 4) := by rw [h4.2.2.2.2]; exact c.r3
    have kzE : hK hE_ z = 1 := by rw [(dS z (by omega)).1]; exact cs.k
    have rzE : hR hE_ z 0 = some x := by rw [(dS z (by omega)).2.2.2.2]; exact hz
    have kxE : hK hE_ x = 2 := by rw [(dS x lx).1]; exact c.k
    have rxE : hR hE_ x 3 = some (x + 4) := by rw [(dS x lx).2.2.2.2]; exact c.r3
    have k4E : hK hE_ (x + 4) = 32 := by rw [(dS _ lx4).1]; exact c.a3.k
    have so : sm hC hC' (z + 495) := h3 _ (by omega) (by rw [r.ow _ (Or.inr ⟨by omega, by omega⟩)]; omega)
    have ko : hK hC' (z + 495) = 102 := by rw [so.1]; exact g.2.2.1
    have lo : hL hC' (z + 495) = 1 := by rw [so.2.1]; exact g.2.2.2.1
    have sW : ∀ u, z + 474 ≤ u → u ≤ z + 495 → sm hC hC' u := fun u q1 q2 => h3 u (by omega) (by rw [r.ow u (Or.inr ⟨by omega, by omega⟩)]; omega)
    have tk : (iI (k : Int)).toInt = (k : Int) := i_toInt (by omega)
    have t0 : (iI 0).toInt = 0 := rfl
    have kn1 : hK (nw hD 100 k k) (hn hC) = 100 := by rw [hK_nw, if_neg (by omega)]; exact kD
    have kn2 : hK (nw hD 100 k k) (hn hD) = 100 := by rw [hK_nw, if_pos rfl]
    have ln1 : hL (nw hD 100 k k) (hn hC) = 3 := by rw [hL_nw, if_neg (by omega)]; exact lD
    have ln2 : hL (nw hD 100 k k) (hn hD) = k := by rw [hL_nw, if_pos rfl]
    obtain ⟨n, hn4_⟩ := Int.eq_ofNat_of_zero_le hr6.1
    have nn : (τ 4).toNat = n := by omega
    have y0 : (60 + 3 * τ 4).toNat = 60 + 3 * n := by omega
    have y1 : (60 + 3 * τ 4 + 1).toNat = 61 + 3 * n := by omega
    have y2 : (60 + 3 * τ 4 + 2).toNat = 62 + 3 * n := by omega
    have e0 : τ 4 + 1 - 1 = τ 4 := by omega
    simp (disch := omega) only [i_lit, i_neg, i_add, i_sub, i_mul, i_ofNat, i_div, i_le, i_lt, i_eq, i_ix, i_inb, i_max, i_min, e_rem, j_lit, j_i, Int.reduceToNat, Int.reduceAdd, Int.reduceSub, Int.reduceMul, Int.reduceNeg, Int.reduceLT, Int.reduceLE, Int.reduceEq, gd_t, gd_T, ↓bd_m, ↓on_m, ↓ec_m, ↓reduceIte, if_true, if_false, true_and, and_true, false_and, and_false, true_or, or_true, false_or, or_false, Bool.false_eq_true, b2i_0, b2i_1, bl_0, bl_1, bl_b2, not_true_eq_false, not_false_eq_true, B_X1_rise_64, B_X8_rise_56, csD.k, hzD, many_eq cD', cD'.k, cD'.i9, cD'.i10, cD'.r0, cD'.r1, cD'.r2, cD'.r3, cD'.r4, cD'.r5, cD'.r6, cD'.r7, cD'.r8, cD'.a0.k, cD'.a1.k, cD'.a2.k, cD'.a3.k, cD'.a4.k, size_eq cD'.a0, size_eq cD'.a1, size_eq cD'.a2, size_eq cD'.a3, size_eq cD'.a4, cD'.kb, cD'.lb, cD'.kl, cD'.ll, cD'.kw, cD'.lw_, cD'.kL, cD'.l, tF, ↓lh_t, tk, t0, kn1, kn2, ln1, ln2, hE, kzE, rzE, kxE, rxE, k4E, h1, kz', rz', kx', rx', w1.k, size_eq w1, ko, lo, ts.k, ts.r1, ts.k1, ts.l1, ts.r2, ts.k2, ts.l2, ts.r3, ts.k3, ts.l3, ts.r4, ts.k4, ts.l4, ts.r5, ts.k5, ts.l5, ts.r6, ts.k6, ts.l6, ts.r7, ts.k7, ts.l7, ts.r8, ts.k8, ts.l8, ts.r9, ts.k9, ts.l9, ts.r10, ts.k10, ts.l10, ts.r11, ts.k11, ts.l11, ts.r12, ts.k12, ts.l12, ts.r13, ts.k13, ts.l13, ts.r14, ts.k14, ts.l14, ts.r15, ts.k15, ts.l15, ts.r16, ts.k16, ts.l16, ts.r17, ts.k17, ts.l17, ts.r18, ts.k18, ts.l18, ts.r19, ts.k19, ts.l19, ts.r20, ts.k20, ts.l20, ti, y0, e0, Int.toNat_natCast, Int.toNat_zero]
    have T0 : tf (fun u => u = m + 1) (wI hT m 5 (iI 0)) (wI hT m 5 (iI 0)) := tf.rfl
    have t1 := tn.set (60 + 3 * n) (v := p) (by omega)
    have ts1 := t1.s
    simp (disch := omega) only [i_lit, i_neg, i_add, i_sub, i_mul, i_ofNat, i_div, i_le, i_lt, i_eq, i_ix, i_inb, i_max, i_min, e_rem, j_lit, j_i, Int.reduceToNat, Int.reduceAdd, Int.reduceSub, Int.reduceMul, Int.reduceNeg, Int.reduceLT, Int.reduceLE, Int.reduceEq, gd_t, gd_T, ↓bd_m, ↓lh_t, ↓on_m, ↓ec_m, ↓reduceIte, if_true, if_false, true_and, and_true, false_and, and_false, true_or, or_true, false_or, or_false, Bool.false_eq_true, b2i_0, b2i_1, bl_0, bl_1, bl_b2, not_true_eq_false, not_false_eq_true, B_X8_rise_90, B_X8_rise_100, B_X8_rise_111, B_X8_rise_121, ts.k, ts.r1, ts.k1, ts.l1, ts.r2, ts.k2, ts.l2, ts.r3, ts.k3, ts.l3, ts.r4, ts.k4, ts.l4, ts.r5, ts.k5, ts.l5, ts.r6, ts.k6, ts.l6, ts.r7, ts.k7, ts.l7, ts.r8, ts.k8, ts.l8, ts.r9, ts.k9, ts.l9, ts.r10, ts.k10, ts.l10, ts.r11, ts.k11, ts.l11, ts.r12, ts.k12, ts.l12, ts.r13, ts.k13, ts.l13, ts.r14, ts.k14, ts.l14, ts.r15, ts.k15, ts.l15, ts.r16, ts.k16, ts.l16, ts.r17, ts.k17, ts.l17, ts.r18, ts.k18, ts.l18, ts.r19, ts.k19, ts.l19, ts.r20, ts.k20, ts.l20, hK_wI, hL_wI, hR_wI, y1, y2]
    have t2 := t1.set (61 + 3 * n) (v := q) (by omega)
    have t3 := t2.set (62 + 3 * n) (v := w) (by omega)
    have v4 := t3.i 4
    rw [upT_o (by omega), upT_o (by omega), upT_o (by omega)] at v4
    have t4 := t3.set 4 (v := τ 4 + 1) (by omega)
    have v5 := t4.i 4
    rw [upT_s] at v5
    simp (disch := omega) only [i_lit, i_neg, i_add, i_sub, i_mul, i_ofNat, i_div, i_le, i_lt, i_eq, i_ix, i_inb, i_max, i_min, e_rem, j_lit, j_i, Int.reduceToNat, Int.reduceAdd, Int.reduceSub, Int.reduceMul, Int.reduceNeg, Int.reduceLT, Int.reduceLE, Int.reduceEq, gd_t, gd_T, ↓bd_m, ↓lh_t, ↓on_m, ↓ec_m, ↓reduceIte, if_true, if_false, true_and, and_true, false_and, and_false, true_or, or_true, false_or, or_false, Bool.false_eq_true, b2i_0, b2i_1, bl_0, bl_1, bl_b2, not_true_eq_false, not_false_eq_true, v4, v5, e0]
    have T4 : tf (fun u => u = m + 1) (wI hT m 5 (iI 0)) (wI (wI (wI (wI (wI hT m 5 (iI 0)) (m + 1) (60 + 3 * n) (iI p)) (m + 1) (61 + 3 * n) (iI q)) (m + 1) (62 + 3 * n) (iI w)) (m + 1) 4 (iI (τ 4 + 1))) := tf_w (tf_w (tf_w (tf_wI rfl) rfl) rfl) rfl
    generalize wI (wI (wI (wI (wI hT m 5 (iI 0)) (m + 1) (60 + 3 * n) (iI p)) (m + 1) (61 + 3 * n) (iI q)) (m + 1) (62 + 3 * n) (iI w)) (m + 1) 4 (iI (τ 4 + 1)) = gT at t4 T4
    have hτ : ∀ i, ¬ (i = 4 ∨ (60 + 3 * (τ 4).toNat ≤ i ∧ i ≤ 62 + 3 * (τ 4).toNat)) → upT (upT (upT (upT τ (60 + 3 * n) p) (61 + 3 * n) q) (62 + 3 * n) w) 4 (τ 4 + 1) i = τ i := fun i hi => by rw [upT_o (by omega), upT_o (by omega), upT_o (by omega), upT_o (by omega)]
    have z0 : upT (upT (upT (upT τ (60 + 3 * n) p) (61 + 3 * n) q) (62 + 3 * n) w) 4 (τ 4 + 1) (60 + 3 * n) = p := by rw [upT_o (by omega), upT_o (by omega), upT_o (by omega), upT_s]
    have z1 : upT (upT (upT (upT τ (60 + 3 * n) p) (61 + 3 * n) q) (62 + 3 * n) w) 4 (τ 4 + 1) (61 + 3 * n) = q := by rw [upT_o (by omega), upT_o (by omega), upT_s]
    have z2 : upT (upT (upT (upT τ (60 + 3 * n) p) (61 + 3 * n) q) (62 + 3 * n) w) 4 (τ 4 + 1) (62 + 3 * n) = w := by rw [upT_o (by omega), upT_s]
    have z4 : upT (upT (upT (upT τ (60 + 3 * n) p) (61 + 3 * n) q) (62 + 3 * n) w) 4 (τ 4 + 1) 4 = τ 4 + 1 := upT_s _ _ _
    generalize upT (upT (upT (upT τ (60 + 3 * n) p) (61 + 3 * n) q) (62 + 3 * n) w) 4 (τ 4 + 1) = τ' at hτ z0 z1 z2 z4 t4
    have tn' := t4
    have rg' : RG τ' := ⟨by rw [hτ 0 (by omega)]; exact c.rg.n,
    by rw [hτ 1 (by omega)]; exact c.rg.d,
    by rw [hτ 2 (by omega)]; exact c.rg.h,
    by rw [hτ 3 (by omega)]; exact c.rg.l,
    by rw [z4]; omega,
    by rw [hτ 5 (by omega)]; exact c.rg.t,
    by rw [hτ 6 (by omega)]; exact c.rg.c,
    fun i hi => by rw [hτ _ (by omega)]; exact c.rg.cost i hi,
    fun i hi => by rw [hτ _ (by omega)]; exact c.rg.price i hi,
    fun i hi => by rw [hτ _ (by omega)]; exact c.rg.late i hi,
    fun i hi => by rw [hτ _ (by omega)]; exact c.rg.first i hi,
    fun i hi => by rw [hτ 0 (by omega)] at hi; have := c.rg.n; rw [hτ (24 + i) (by omega), hτ 2 (by omega)]; exact c.rg.chg i hi,
    fun k hk => by rw [hτ 1 (by omega)] at hk; have := c.rg.d; rw [hτ (28 + 4 * k) (by omega), hτ (29 + 4 * k) (by omega), hτ (30 + 4 * k) (by omega), hτ (31 + 4 * k) (by omega), hτ 0 (by omega)]; exact c.rg.drv k hk,
    fun i hi => by rw [hτ _ (by omega)]; exact c.rg.lev i hi,
    fun i hi => by
            rw [z4] at hi
            by_cases u0 : i = 3 * n
            · rw [u0, z0]; omega
            · by_cases u1 : i = 3 * n + 1
              · rw [u1, show 60 + (3 * n + 1) = 61 + 3 * n by omega, z1]; omega
              · by_cases u2 : i = 3 * n + 2
                · rw [u2, show 60 + (3 * n + 2) = 62 + 3 * n by omega, z2]; omega
                · rw [hτ _ (by omega)]; exact c.rg.rise i (by omega),
    fun i hi => by rw [hτ _ (by omega)]; exact c.rg.wgt i hi,
    by rw [hτ 120 (by omega)]; exact c.rg.once,
    by rw [hτ 121 (by omega)]; exact c.rg.at,
    by rw [hτ 122 (by omega)]; exact c.rg.cap,
    by rw [hτ 123 (by omega)]; exact c.rg.told,
    by rw [hτ 124 (by omega)]; exact c.rg.byc,
    fun i hi => by rw [hτ _ (by omega)]; exact c.rg.brd i hi,
    fun i hi => by rw [hτ _ (by omega)]; exact c.rg.row i hi,
    fun k hk => by rw [hτ 6 (by omega)] at hk; have := c.rg.c; rw [hτ (3149 + 3 * k) (by omega), hτ (3150 + 3 * k) (by omega), hτ (3151 + 3 * k) (by omega)]; exact c.rg.chn k hk,
    tn'.g⟩
    have rr := (r.thr 5 (by omega) (iI 0)).add3 (hD := hE_) (hC' := hC') (n := τ 4) (D := hn hD) (e' := e') rfl (by omega) ⟨by omega, by omega⟩ dS d3 d4 h2' hτ z4 (by
      rw [nn, z0, z1, z2]
      refine ⟨by rw [sDD.1]; exact kE, trivial, hp.1, by rw [sDD.2.1, lE]; exact len, qw, fun j hj => ?_⟩
      rw [sDD.2.1, lE] at hj
      rw [sDD.2.2.1, vE j hj]
      unfold rV
      rcases (show j = 0 ∨ j = 1 ∨ j = 2 by omega) with rfl | rfl | rfl
      · rw [if_pos rfl, Nat.add_zero, z0]
      · rw [if_neg (by omega), if_pos rfl, show 60 + 3 * n + 1 = 61 + 3 * n by omega, z1]
      · rw [if_neg (by omega), if_neg (by omega), show 60 + 3 * n + 2 = 62 + 3 * n by omega, z2]) rg' T4 tn'
    refine Ok2.some ⟨⟨?_, fun _ => ?_⟩, FCown sW (by omega) (by omega) (by omega) _ _, (FT.thr _ _ _ _).trans (T4.mono (fun u q => by omega)), ⟨_, x, τ', υ, _, _, lw, rr.outk (fun u h1 h2 => by rw [(sW u h1 h2).1]; exact g.2.2.2.2 u h1 h2) _ _⟩⟩
    · show _ = hI gT m 5
      rw [T4.I (by omega), hI5]
    · show hJ (wJ _ _ _ _) _ _ = _
      rw [hJ_wJ, if_pos ⟨rfl, rfl⟩]
      exact (j_i (by omega)).symm
