/-! PURE HF: tray -/
set_option maxRecDepth 100000
theorem RL.nz {o : Nat → Nat} {hC hT : AH} {z m x : Nat} {τ : Nat → Int} {υ : Nat → Int64} {e : Nat → Nat} {el : Nat → Nat → Nat} {lw : Nat} (r : RL o hC hT z m x τ υ e el lw) (k s : Nat) : RL o (nz hC k s) hT z m x τ υ e el lw :=
  r.grow (fun a _ => sm_nz) (by rw [hn_nz]; omega) (fun a q => by rw [hn_nz] at q; rw [hK_nz]; exact (r.ho a (by omega)).1) (fun a q => by rw [hK_nz, (r.ho a q).1]; omega)
theorem FCnz {o : Nat → Nat} {hC hT : AH} {z m x : Nat} {τ : Nat → Int} {υ : Nat → Int64} {e : Nat → Nat} {el : Nat → Nat → Nat} {lw : Nat} (r : RL o hC hT z m x τ υ e el lw) {k s : Nat} (h1 : k ≤ 100) (h2 : s ≤ 1000) : FC z hC (nw (nz hC k s) 0 0 6) := by
  have := r.hnz
  exact ⟨⟨by rw [hn_nw, hn_nz]; omega, by rw [hc_nw, hc_nz]; omega, by rw [hs_nw, hs_nz]; omega⟩, fun a q1 q2 => (sm_nz).trans (sm_nw (by rw [hn_nz]; omega)), by rw [hK_nw, if_neg (by rw [hn_nz]; omega), hK_nz], by rw [hL_nw, if_neg (by rw [hn_nz]; omega), hL_nz]⟩
/-- a call that answers nothing -/
def VN (m : Nat) (a : Int32 × AH) (b : AH) : Prop := a.1 = hI b m 5
theorem RL.badN {o : Nat → Nat} {hC hT : AH} {z m x : Nat} {τ : Nat → Int} {υ : Nat → Int64} {e : Nat → Nat} {el : Nat → Nat → Nat} {lw : Nat} (r : RL o hC hT z m x τ υ e el lw) (k : Int32) : VN m (k, nw hC 0 0 6) (wI hT m 5 k) ∧ FC z hC (nw hC 0 0 6) ∧ FT m hT (wI hT m 5 k) ∧ Rx (nw hC 0 0 6) (wI hT m 5 k) z m :=
  ⟨by show k = _; rw [hI5], FC.nw0 r, FT.thr _ _ _ _, ⟨o, x, τ, υ, e, el, lw, (r.nw0 0 6).thr 5 (by omega) _⟩⟩
/-- the component's new row -/
theorem tray_new {o : Nat → Nat} {hC hT : AH} {z m x : Nat} {τ : Nat → Int} {υ : Nat → Int64} {e : Nat → Nat} {el : Nat → Nat → Nat} {lw : Nat} (r : RL o hC hT z m x τ υ e el lw) (g : rm z hC) {t : Nat} (ht : t < 4) {so κ : Nat} {n : Nat} (hn28 : n ≤ 28) (hκ : (so = 0 ∧ κ = 101) ∨ (so = 1 ∧ κ = 103) ∨ (so = 2 ∧ κ = 100) ∨ (so = 3 ∧ κ = 102)) {hT' : AH} (T : tf (fun a => a = m + 18 ∨ a = m + 19 ∨ a = m + 20) (wI hT m 5 (iI 0)) hT') (v18 : hI hT' (m + 18) t = iI so) (d18 : ∀ j, j ≠ t → hI hT' (m + 18) j = hI hT (m + 18) j) (v19 : hI hT' (m + 19) t = iI n) (d19 : ∀ j, j ≠ t → hI hT' (m + 19) j = hI hT (m + 19) j) (v20 : ∀ k, k < 28 → hJ hT' (m + 20) (28 * t + k) = jI 0) (d20 : ∀ k, ¬ (28 * t ≤ k ∧ k < 28 * t + 28) → hJ hT' (m + 20) k = hJ hT (m + 20) k) :
    VN m (iI 0, wR (nw hC κ n n) (z + 440 + t) 0 (some (hn hC))) hT' ∧ FC z hC (wR (nw hC κ n n) (z + 440 + t) 0 (some (hn hC))) ∧ FT m hT hT' ∧ Rx (wR (nw hC κ n n) (z + 440 + t) 0 (some (hn hC))) hT' z m := by
  have hnz := r.hnz
  have hm := r.m
  have hg1 := g.1
  have hg2 := g.2.1
  have n20 : ∀ a, ¬ (a = m + 18 ∨ a = m + 19 ∨ a = m + 20) → hI hT' a = hI (wI hT m 5 (iI 0)) a ∧ hJ hT' a = hJ hT a := fun a q => ⟨T.I q, T.J q⟩
  have hne : z + 440 + t ≠ hn hC := by omega
  have kk : ∀ a, hK (wR (nw hC κ n n) (z + 440 + t) 0 (some (hn hC))) a = if a = hn hC then κ else hK hC a := fun a => by rw [hK_wR, hK_nw]
  refine ⟨?_, ⟨⟨by rw [hn_wR, hn_nw]; omega, by rw [hc_wR, hc_nw]; omega, by rw [hs_wR, hs_nw]; omega⟩, fun a q1 q2 => (sm_nw (by omega)).trans (sm_wR (by omega)), by rw [kk, if_neg (by omega)], by rw [hL_wR, hL_nw, if_neg (by omega)]⟩, FTin T (fun a q => by omega), ⟨fun a => if a = hn hC then 70 + t else o a, x, τ, υ, e, el, lw, ?_⟩⟩
  · show iI 0 = hI hT' m 5
    rw [(n20 m (by omega)).1, hI5]
  · refine r.tri2 ht (o' := fun a => if a = hn hC then 70 + t else o a) (fun a q1 q2 => (sm_nw (by omega)).trans (sm_wR q2)) (fun a q => by rw [kk, if_neg (by omega)]) (by rw [hn_wR, hn_nw]; omega) (fun a q => ?_) (fun a q => ?_) (fun a q => by simp only [show a ≠ hn hC by omega, if_false]) ((r.tn.wm 5 (iI 0)).s.tf T) (fun a q => ?_) d18 d19 (fun j k q1 q2 => d20 _ (by omega)) ?_ ?_ ?_ (by rw [(n20 m (by omega)).2]) (by rw [(n20 m (by omega)).2]) ?_
    · rw [hn_wR, hn_nw] at q
      rw [kk, if_neg (by omega)]
      simp only [show a ≠ hn hC by omega, if_false]
      exact r.ho a (by omega)
    · rw [kk]
      split
      · omega
      · rw [(r.ho a q).1]; omega
    · have := n20 a (by omega)
      rw [this.1, this.2]
      exact ⟨(sm_wI (by omega)).2.2.1, rfl⟩
    · rw [(n20 m (by omega)).1, hI_wI, if_neg (by omega)]
    · rw [(n20 m (by omega)).1, hI_wI, if_neg (by omega)]
    · rw [(n20 m (by omega)).1, hI_wI, if_neg (by omega)]
    · have hI0 : ∀ k, hI (wR (nw hC κ n n) (z + 440 + t) 0 (some (hn hC))) (hn hC) k = 0 := fun k => by rw [hI_wR, hI_nw, if_pos rfl]
      have hJ0 : ∀ k, hJ (wR (nw hC κ n n) (z + 440 + t) 0 (some (hn hC))) (hn hC) k = 0 := fun k => by rw [hJ_wR, hJ_nw, if_pos rfl]
      refine Or.inr ⟨so, n, hn hC, v18, by omega, v19, hn28, by rw [hR_wR, if_pos ⟨rfl, rfl⟩], by simp only [if_true], by rw [hL_wR, hL_nw, if_pos rfl], ?_⟩
      rw [kk, if_pos rfl]
      have z64 : jI 0 = (0 : Int32).toInt64 := by decide
      rcases hκ with ⟨rfl, rfl⟩ | ⟨rfl, rfl⟩ | ⟨rfl, rfl⟩ | ⟨rfl, rfl⟩
      · exact Or.inl ⟨rfl, rfl, fun k hk => by rw [v20 k (by omega), hI0, z64]⟩
      · exact Or.inr (Or.inl ⟨rfl, rfl, fun k hk => by rw [v20 k (by omega), hI0, z64]⟩)
      · exact Or.inr (Or.inr (Or.inl ⟨rfl, rfl, fun k hk => by rw [v20 k (by omega), hI0, z64]⟩))
      · exact Or.inr (Or.inr (Or.inr ⟨rfl, rfl, fun k hk => by rw [v20 k (by omega), hJ0]; rfl⟩))
theorem op_tray {z m : Nat} (x1 x2 x3 : Int32) : ∀ hC hT, Rx hC hT z m → rm z hC → Ok2 (F_X0_tray hC z x1 x2 x3) (F_X8_tray hT m x1 x2 x3) (fun a b => VN m a b ∧ FC z hC a.2 ∧ FT m hT b ∧ Rx a.2 b z m) := by
  intro hC hT ⟨o, x, τ, υ, e, el, lw, r⟩ g
  have hn4 := r.c.rg.n
  have cs := r.cs
  have c := r.c
  have hz := r.hz
  have ts0 := r.tn.s
  have tn := r.tn.wm 5 (iI 0)
  have ti := tn.i
  have ts := tn.s
  have hgi := c.rg.i
  have gr : 1 ≤ hc hC ∧ 6 ≤ hs hC := by have := g.1; have := g.2.1; omega
  obtain ⟨t, rfl, ht⟩ := i_ex x1
  obtain ⟨so, rfl, hso⟩ := i_ex x2
  obtain ⟨n, rfl, hnn⟩ := i_ex x3
  have hg1 := g.1
  have hg2 := g.2.1
  have e1 := isTray_eq hT ht
  have e2 := within_eq hT (a := so) (b := 0) (c := 3) (by omega) (by omega) (by omega)
  have e3 := isIn_eq hC (a := so) (b := 0) (c := 3) (by omega) (by omega) (by omega)
  have e4 := within_eq hT (a := n) (b := 0) (c := 28) (by omega) (by omega) (by omega)
  have bad : ∀ a : Nat, B_X1_tray_30 hC (iI so) (iI n) a (iI 0) = some (.inr (2, hn hC, nw hC 0 0 6)) := fun a => by
    unfold B_X1_tray_30
    simp (disch := omega) only [i_lit, i_neg, i_add, i_sub, i_mul, i_ofNat, i_div, i_le, i_lt, i_eq, i_ix, i_inb, i_max, i_min, e_rem, j_lit, j_i, Int.reduceToNat, Int.reduceAdd, Int.reduceSub, Int.reduceMul, Int.reduceNeg, Int.reduceLT, Int.reduceLE, Int.reduceEq, gd_t, gd_T, ↓bd_m, ↓lh_t, ↓on_m, ↓ec_m, ↓reduceIte, if_true, if_false, true_and, and_true, false_and, and_false, true_or, or_true, false_or, or_false, Bool.false_eq_true, b2i_0, b2i_1, bl_0, bl_1, bl_b2, not_true_eq_false, not_false_eq_true, right_f gr]
  by_cases q1 : 0 ≤ t ∧ t ≤ 3
  · rw [b2_t q1] at e1
    obtain ⟨t, rfl⟩ := Int.eq_ofNat_of_zero_le q1.1
    have tO := trayOf_t cs (t := t) (by omega)
    have w7 := (cs.wt t (by omega)).2
    by_cases q2 : 0 ≤ so ∧ so ≤ 3
    · rw [b2_t q2] at e2 e3
      by_cases q3 : 28 < n
      · rw [b2_f (by omega)] at e4
        simp (disch := omega) only [i_lit, i_neg, i_add, i_sub, i_mul, i_ofNat, i_div, i_le, i_lt, i_eq, i_ix, i_inb, i_max, i_min, e_rem, j_lit, j_i, Int.reduceToNat, Int.reduceAdd, Int.reduceSub, Int.reduceMul, Int.reduceNeg, Int.reduceLT, Int.reduceLE, Int.reduceEq, gd_t, gd_T, ↓bd_m, ↓lh_t, ↓on_m, ↓ec_m, ↓reduceIte, if_true, if_false, true_and, and_true, false_and, and_false, true_or, or_true, false_or, or_false, Bool.false_eq_true, b2i_0, b2i_1, bl_0, bl_1, bl_b2, not_true_eq_false, not_false_eq_true, F_X0_tray, F_X1_tray, B_X1_tray_29, bad, B_X0_tray_14, F_X8_tray, B_X8_tray_36, B_X8_tray_41, B_X8_tray_44, cs.k, tO, e3, q3, ts0.k, e1, e2, e4, hK_wI, hI5, Nat.reduceEqDiff]
        exact Ok2.some (r.badN _)
      · by_cases q4 : n < 0
        · rw [b2_f (by omega)] at e4
          have R : VN m (iI 2, nw (nz hC 3 54) 0 0 6) (wI hT m 5 (iI 2)) ∧ FC z hC (nw (nz hC 3 54) 0 0 6) ∧ FT m hT (wI hT m 5 (iI 2)) ∧ Rx (nw (nz hC 3 54) 0 0 6) (wI hT m 5 (iI 2)) z m := ⟨by show iI 2 = _; rw [hI5], FCnz r (by omega) (by omega), FT.thr _ _ _ _, ⟨o, x, τ, υ, e, el, lw, ((r.nz 3 54).nw0 0 6).thr 5 (by omega) _⟩⟩
          have g1 : 3 ≤ hc hC ∧ 54 ≤ hs hC := by omega
          have g2 : 1 ≤ hc (nz hC 3 54) ∧ 6 ≤ hs (nz hC 3 54) := by rw [hc_nz, hs_nz]; omega
          rcases (show so = 0 ∨ so = 1 ∨ so = 2 ∨ so = 3 by omega) with rfl | rfl | rfl | rfl
          all_goals
            simp (disch := omega) only [i_lit, i_neg, i_add, i_sub, i_mul, i_ofNat, i_div, i_le, i_lt, i_eq, i_ix, i_inb, i_max, i_min, e_rem, j_lit, j_i, Int.reduceToNat, Int.reduceAdd, Int.reduceSub, Int.reduceMul, Int.reduceNeg, Int.reduceLT, Int.reduceLE, Int.reduceEq, gd_t, gd_T, ↓bd_m, ↓lh_t, ↓on_m, ↓ec_m, ↓reduceIte, if_true, if_false, true_and, and_true, false_and, and_false, true_or, or_true, false_or, or_false, Bool.false_eq_true, b2i_0, b2i_1, bl_0, bl_1, bl_b2, not_true_eq_false, not_false_eq_true, F_X0_tray, F_X1_tray, B_X1_tray_30, F_X7_make, B_X1_tray_43, B_X0_tray_14, F_X8_tray, B_X8_tray_36, B_X8_tray_41, B_X8_tray_44, cs.k, tO, e3, q3, right_t, w7, q4, g1, g2, ts0.k, e1, e2, e4, hK_wI, hI5, Nat.reduceEqDiff]
            exact Ok2.some R
        · rw [b2_t (by omega)] at e4
          obtain ⟨n, rfl⟩ := Int.eq_ofNat_of_zero_le (show 0 ≤ n by omega)
          obtain ⟨so, rfl⟩ := Int.eq_ofNat_of_zero_le q2.1
          -- the reference
          have T0 : tf (fun a => a = m + 18 ∨ a = m + 19 ∨ a = m + 20) (wI hT m 5 (iI 0)) (wI (wI (wI hT m 5 (iI 0)) (m + 18) t (iI so)) (m + 19) t (iI n)) := tf_w (tf_wI (Or.inl rfl)) (Or.inr (Or.inl rfl))
          have tsw := ts.tf T0
          obtain ⟨gT, k1, k2, k3, k4, k5⟩ := trayT tsw (t := t) (by omega)
          have T1 := T0.trans (k2.mono (fun a q => Or.inr (Or.inr q)))
          have fin := fun κ (hκ : (so = 0 ∧ κ = 101) ∨ (so = 1 ∧ κ = 103) ∨ (so = 2 ∧ κ = 100) ∨ (so = 3 ∧ κ = 102)) => tray_new r g (t := t) (by omega) (so := so) (κ := κ) (n := n) (by omega) hκ T1 (by rw [k3, hI_wI, if_neg (by omega), hI_wI, if_pos ⟨rfl, rfl⟩]) (fun j hj => by rw [k3, hI_wI, if_neg (by omega), hI_wI, if_neg (by omega), hI_wI, if_neg (by omega)]) (by rw [k3, hI_wI, if_pos ⟨rfl, rfl⟩]) (fun j hj => by rw [k3, hI_wI, if_neg (by omega), hI_wI, if_neg (by omega), hI_wI, if_neg (by omega)]) k4 (fun k hk => by rw [k5 k hk]; rfl)
          have rT : F_X8_tray hT m (iI t) (iI so) (iI n) = some gT := by
            simp (disch := omega) only [i_lit, i_neg, i_add, i_sub, i_mul, i_ofNat, i_div, i_le, i_lt, i_eq, i_ix, i_inb, i_max, i_min, e_rem, j_lit, j_i, Int.reduceToNat, Int.reduceAdd, Int.reduceSub, Int.reduceMul, Int.reduceNeg, Int.reduceLT, Int.reduceLE, Int.reduceEq, gd_t, gd_T, ↓bd_m, ↓lh_t, ↓on_m, ↓ec_m, ↓reduceIte, if_true, if_false, true_and, and_true, false_and, and_false, true_or, or_true, false_or, or_false, Bool.false_eq_true, b2i_0, b2i_1, bl_0, bl_1, bl_b2, not_true_eq_false, not_false_eq_true, F_X8_tray, B_X8_tray_41, B_X8_tray_44, B_X8_tray_59, B_X8_tray_66, ts0.k, ts0.r1, ts0.k1, ts0.l1, ts0.r2, ts0.k2, ts0.l2, ts0.r3, ts0.k3, ts0.l3, ts0.r4, ts0.k4, ts0.l4, ts0.r5, ts0.k5, ts0.l5, ts0.r6, ts0.k6, ts0.l6, ts0.r7, ts0.k7, ts0.l7, ts0.r8, ts0.k8, ts0.l8, ts0.r9, ts0.k9, ts0.l9, ts0.r10, ts0.k10, ts0.l10, ts0.r11, ts0.k11, ts0.l11, ts0.r12, ts0.k12, ts0.l12, ts0.r13, ts0.k13, ts0.l13, ts0.r14, ts0.k14, ts0.l14, ts0.r15, ts0.k15, ts0.l15, ts0.r16, ts0.k16, ts0.l16, ts0.r17, ts0.k17, ts0.l17, ts0.r18, ts0.k18, ts0.l18, ts0.r19, ts0.k19, ts0.l19, ts0.r20, ts0.k20, ts0.l20, e1, e2, e4, hK_wI, hL_wI, hR_wI, hI5, Int.toNat_natCast, k1]
          rw [rT]
          have t0 : (iI (n : Int)).toInt = (n : Int) := i_toInt (by omega)
          have w7' : ∀ κ, hK (nw hC κ n n) (z + 440 + t) = 7 := fun κ => by rw [hK_nw, if_neg (by have := r.hnz; omega)]; exact w7
          rcases (show so = 0 ∨ so = 1 ∨ so = 2 ∨ so = 3 by omega) with rfl | rfl | rfl | rfl
          · have F := fin 101 (by omega)
            simp (disch := omega) only [i_lit, i_neg, i_add, i_sub, i_mul, i_ofNat, i_div, i_le, i_lt, i_eq, i_ix, i_inb, i_max, i_min, e_rem, j_lit, j_i, Int.reduceToNat, Int.reduceAdd, Int.reduceSub, Int.reduceMul, Int.reduceNeg, Int.reduceLT, Int.reduceLE, Int.reduceEq, gd_t, gd_T, ↓bd_m, ↓lh_t, ↓on_m, ↓ec_m, ↓reduceIte, if_true, if_false, true_and, and_true, false_and, and_false, true_or, or_true, false_or, or_false, Bool.false_eq_true, b2i_0, b2i_1, bl_0, bl_1, bl_b2, not_true_eq_false, not_false_eq_true, F_X0_tray, F_X1_tray, B_X1_tray_30, F_X7_make, B_X7_make_36, cs.k, tO, e3, q3, right_t, w7, q4, t0, w7', Int.toNat_natCast, Int.natCast_zero]
            exact Ok2.some F
          · have F := fin 103 (by omega)
            simp (disch := omega) only [i_lit, i_neg, i_add, i_sub, i_mul, i_ofNat, i_div, i_le, i_lt, i_eq, i_ix, i_inb, i_max, i_min, e_rem, j_lit, j_i, Int.reduceToNat, Int.reduceAdd, Int.reduceSub, Int.reduceMul, Int.reduceNeg, Int.reduceLT, Int.reduceLE, Int.reduceEq, gd_t, gd_T, ↓bd_m, ↓lh_t, ↓on_m, ↓ec_m, ↓reduceIte, if_true, if_false, true_and, and_true, false_and, and_false, true_or, or_true, false_or, or_false, Bool.false_eq_true, b2i_0, b2i_1, bl_0, bl_1, bl_b2, not_true_eq_false, not_false_eq_true, F_X0_tray, F_X1_tray, B_X1_tray_30, F_X7_make, B_X7_make_36, cs.k, tO, e3, q3, right_t, w7, q4, t0, w7', Int.toNat_natCast]
            exact Ok2.some F
          · have F := fin 100 (by omega)
            simp (disch := omega) only [i_lit, i_neg, i_add, i_sub, i_mul, i_ofNat, i_div, i_le, i_lt, i_eq, i_ix, i_inb, i_max, i_min, e_rem, j_lit, j_i, Int.reduceToNat, Int.reduceAdd, Int.reduceSub, Int.reduceMul, Int.reduceNeg, Int.reduceLT, Int.reduceLE, Int.reduceEq, gd_t, gd_T, ↓bd_m, ↓lh_t, ↓on_m, ↓ec_m, ↓reduceIte, if_true, if_false, true_and, and_true, false_and, and_false, true_or, or_true, false_or, or_false, Bool.false_eq_true, b2i_0, b2i_1, bl_0, bl_1, bl_b2, not_true_eq_false, not_false_eq_true, F_X0_tray, F_X1_tray, B_X1_tray_30, F_X7_make, B_X7_make_36, cs.k, tO, e3, q3, right_t, w7, q4, t0, w7', Int.toNat_natCast]
            exact Ok2.some F
          · have F := fin 102 (by omega)
            simp (disch := omega) only [i_lit, i_neg, i_add, i_sub, i_mul, i_ofNat, i_div, i_le, i_lt, i_eq, i_ix, i_inb, i_max, i_min, e_rem, j_lit, j_i, Int.reduceToNat, Int.reduceAdd, Int.reduceSub, Int.reduceMul, Int.reduceNeg, Int.reduceLT, Int.reduceLE, Int.reduceEq, gd_t, gd_T, ↓bd_m, ↓lh_t, ↓on_m, ↓ec_m, ↓reduceIte, if_true, if_false, true_and, and_true, false_and, and_false, true_or, or_true, false_or, or_false, Bool.false_eq_true, b2i_0, b2i_1, bl_0, bl_1, bl_b2, not_true_eq_false, not_false_eq_true, F_X0_tray, F_X1_tray, B_X1_tray_30, F_X7_make, B_X7_make_36, cs.k, tO, e3, q3, right_t, w7, q4, t0, w7', Int.toNat_natCast]
            exact Ok2.some F
    · rw [b2_f q2] at e2 e3
      simp (disch := omega) only [i_lit, i_neg, i_add, i_sub, i_mul, i_ofNat, i_div, i_le, i_lt, i_eq, i_ix, i_inb, i_max, i_min, e_rem, j_lit, j_i, Int.reduceToNat, Int.reduceAdd, Int.reduceSub, Int.reduceMul, Int.reduceNeg, Int.reduceLT, Int.reduceLE, Int.reduceEq, gd_t, gd_T, ↓bd_m, ↓lh_t, ↓on_m, ↓ec_m, ↓reduceIte, if_true, if_false, true_and, and_true, false_and, and_false, true_or, or_true, false_or, or_false, Bool.false_eq_true, b2i_0, b2i_1, bl_0, bl_1, bl_b2, not_true_eq_false, not_false_eq_true, F_X0_tray, F_X1_tray, B_X1_tray_29, bad, B_X0_tray_14, F_X8_tray, B_X8_tray_36, B_X8_tray_41, B_X8_tray_44, cs.k, tO, e3, ts0.k, e1, e2, hK_wI, hI5, Nat.reduceEqDiff]
      exact Ok2.some (r.badN _)
  · rw [b2_f q1] at e1
    simp (disch := omega) only [i_lit, i_neg, i_add, i_sub, i_mul, i_ofNat, i_div, i_le, i_lt, i_eq, i_ix, i_inb, i_max, i_min, e_rem, j_lit, j_i, Int.reduceToNat, Int.reduceAdd, Int.reduceSub, Int.reduceMul, Int.reduceNeg, Int.reduceLT, Int.reduceLE, Int.reduceEq, gd_t, gd_T, ↓bd_m, ↓lh_t, ↓on_m, ↓ec_m, ↓reduceIte, if_true, if_false, true_and, and_true, false_and, and_false, true_or, or_true, false_or, or_false, Bool.false_eq_true, b2i_0, b2i_1, bl_0, bl_1, bl_b2, not_true_eq_false, not_false_eq_true, F_X0_tray, F_X1_tray, B_X0_tray_10, F_X8_tray, B_X8_tray_41, B_X8_tray_44, cs.k, trayOf_f hC z gr ht q1, ts0.k, e1, hK_wI, hI5, Nat.reduceEqDiff]
    exact Ok2.some (r.badN _)
