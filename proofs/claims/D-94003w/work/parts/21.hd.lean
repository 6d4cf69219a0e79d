/-! PURE HD: fractions: odds, passed -/
set_option maxRecDepth 100000
theorem j_add (a b : Int) : jI a + jI b = jI (a + b) := (Int64.ofInt_add a b).symm
theorem j_sub (a b : Int) : jI a - jI b = jI (a - b) := (Int64.ofInt_sub a b).symm
theorem j_div {a d : Int} (ha : 0 ≤ a ∧ a < 9223372036854775808) (hd : 0 < d ∧ d < 9223372036854775808) : jI a / jI d = jI (a / d) := by
  have h1 : 0 ≤ a / d := Int.ediv_nonneg ha.1 (by omega)
  have h2 : a / d ≤ a := Int.ediv_le_self d ha.1
  apply Int64.toInt_inj.1
  rw [Int64.toInt_div, j_toInt (by omega), j_toInt (by omega), j_toInt (by omega), Int.tdiv_eq_ediv_of_nonneg ha.1, Int.bmod_eq_of_le (by omega) (by omega)]
theorem lg_e0 {a : Int} (ha : -9223372036854775808 ≤ a ∧ a < 9223372036854775808) : (lg_cmp (jI a) (jI 0) = iI 0) = (a = 0) := by
  unfold lg_cmp
  simp only [gt_iff_lt, j_lt (show -9223372036854775808 ≤ (0 : Int) ∧ (0 : Int) < 9223372036854775808 by omega) ha, j_eq ha (show -9223372036854775808 ≤ (0 : Int) ∧ (0 : Int) < 9223372036854775808 by omega)]
  by_cases h1 : 0 < a
  · rw [if_pos h1]
    exact propext ⟨fun h => absurd h (by decide), fun h => by omega⟩
  · rw [if_neg h1]
    by_cases h2 : a = 0
    · rw [if_pos h2]
      exact propext ⟨fun _ => h2, fun _ => rfl⟩
    · rw [if_neg h2]
      exact propext ⟨fun h => absurd h (by decide), fun h => absurd h h2⟩
/-- a part of a fraction -/
def frS (u w : Int) : Int64 := if w = 0 then jI 0 else jI u / jI w
theorem comm_run {h hT : AH} {m : Nat} (km : hK hT m = 8) {u v : Int} (hu : 0 ≤ u ∧ u < 4611686018427387904) (hv : 0 ≤ v ∧ v < 4611686018427387904) : Ok2 (F_X1_common h (jI u) (jI v)) (F_X8_fraction hT m (jI u) (jI v)) (fun a b => ∃ w : Int, (0 ≤ w ∧ w < 4611686018427387904) ∧ a = jI w ∧ b = wJ (wJ hT m 26 (frS u w)) m 27 (frS v w)) := by
  unfold F_X1_common G_X1_common_6 F_X8_fraction G_X8_fraction_6
  refine lp_ok2 (fun s t k => ∃ a b : Int, s = (jI a, jI b) ∧ t = (hT, m, jI u, jI v, jI a, jI b) ∧ (0 ≤ a ∧ a < 4611686018427387904) ∧ (0 ≤ b ∧ b < 4611686018427387904) ∧ k = b.toNat) ?_ fuel v.toNat _ _ ⟨u, v, rfl, rfl, hu, hv, rfl⟩ (by unfold fuel; omega)
  rintro f1 f2 s t k ⟨a, b, rfl, rfl, ha, hb, rfl⟩ ih
  unfold L_X1_common_6 L_X8_fraction_6
  by_cases q : b = 0
  · by_cases q2 : a = 0
    · simp (disch := omega) only [i_lit, i_neg, i_add, i_sub, i_mul, i_ofNat, i_div, i_le, i_lt, i_eq, i_ix, i_inb, i_max, i_min, e_rem, j_lit, j_i, Int.reduceToNat, Int.reduceAdd, Int.reduceSub, Int.reduceMul, Int.reduceNeg, Int.reduceLT, Int.reduceLE, Int.reduceEq, gd_t, gd_T, ↓bd_m, ↓lh_t, ↓on_m, ↓ec_m, ↓reduceIte, if_true, if_false, true_and, and_true, false_and, and_false, true_or, or_true, false_or, or_false, Bool.false_eq_true, b2i_0, b2i_1, bl_0, bl_1, bl_b2, not_true_eq_false, not_false_eq_true, B_X1_common_6, B_X1_common_31, B_X8_fraction_6, B_X8_fraction_31, B_X8_fraction_47, B_X8_fraction_50, B_X8_fraction_66, lg_e0, q, q2, km, hK_wJ]
      refine Ok2.some ⟨0, by omega, rfl, ?_⟩
      unfold frS
      rw [if_pos rfl, if_pos rfl]
    · have qF : (a = 0) = False := eq_false q2
      simp (disch := omega) only [i_lit, i_neg, i_add, i_sub, i_mul, i_ofNat, i_div, i_le, i_lt, i_eq, i_ix, i_inb, i_max, i_min, e_rem, j_lit, j_i, Int.reduceToNat, Int.reduceAdd, Int.reduceSub, Int.reduceMul, Int.reduceNeg, Int.reduceLT, Int.reduceLE, Int.reduceEq, gd_t, gd_T, ↓bd_m, ↓lh_t, ↓on_m, ↓ec_m, ↓reduceIte, if_true, if_false, true_and, and_true, false_and, and_false, true_or, or_true, false_or, or_false, Bool.false_eq_true, b2i_0, b2i_1, bl_0, bl_1, bl_b2, not_true_eq_false, not_false_eq_true, B_X1_common_6, B_X1_common_31, B_X8_fraction_6, B_X8_fraction_31, B_X8_fraction_47, B_X8_fraction_50, B_X8_fraction_66, lg_e0, q, qF, j_eq, km, hK_wJ]
      refine Ok2.some ⟨a, by omega, rfl, ?_⟩
      unfold frS
      rw [if_neg q2, if_neg q2]
  · have qF : (b = 0) = False := eq_false q
    have hm := Int.emod_nonneg a q
    have hm2 := Int.emod_lt_of_pos a (show 0 < b by omega)
    have nx := ih (jI b, jI (a % b)) (hT, m, jI u, jI v, jI b, jI (a % b)) (a % b).toNat (by omega) ⟨b, a % b, rfl, rfl, hb, by omega, rfl⟩
    simp (disch := omega) only [i_lit, i_neg, i_add, i_sub, i_mul, i_ofNat, i_div, i_le, i_lt, i_eq, i_ix, i_inb, i_max, i_min, e_rem, j_lit, j_i, Int.reduceToNat, Int.reduceAdd, Int.reduceSub, Int.reduceMul, Int.reduceNeg, Int.reduceLT, Int.reduceLE, Int.reduceEq, gd_t, gd_T, ↓bd_m, ↓lh_t, ↓on_m, ↓ec_m, ↓reduceIte, if_true, if_false, true_and, and_true, false_and, and_false, true_or, or_true, false_or, or_false, Bool.false_eq_true, b2i_0, b2i_1, bl_0, bl_1, bl_b2, not_true_eq_false, not_false_eq_true, B_X1_common_6, B_X8_fraction_6, lg_e0, qF, j_eq, j_div, j_mul, j_sub]
    exact nx
theorem frac_run {h hT : AH} {z m : Nat} (kz : hK h z = 1) (km : hK hT m = 8) {u v : Int} (hu : 0 ≤ u ∧ u < 4611686018427387904) (hv : 0 ≤ v ∧ v < 4611686018427387904) : ∃ p q : Int64, F_X1_tell h z (jI u) (jI v) = some (wJ (wJ h z 11 p) z 12 q) ∧ F_X8_fraction hT m (jI u) (jI v) = some (wJ (wJ hT m 26 p) m 27 q) := by
  obtain ⟨a, b, h1, h2, w, hw, rfl, rfl⟩ := comm_run (h := h) km hu hv
  refine ⟨frS u w, frS v w, ?_, h2⟩
  unfold F_X1_tell frS
  by_cases q : w = 0
  · rw [if_pos q, if_pos q]
    simp (disch := omega) only [i_lit, i_neg, i_add, i_sub, i_mul, i_ofNat, i_div, i_le, i_lt, i_eq, i_ix, i_inb, i_max, i_min, e_rem, j_lit, j_i, Int.reduceToNat, Int.reduceAdd, Int.reduceSub, Int.reduceMul, Int.reduceNeg, Int.reduceLT, Int.reduceLE, Int.reduceEq, gd_t, gd_T, ↓bd_m, ↓lh_t, ↓on_m, ↓ec_m, ↓reduceIte, if_true, if_false, true_and, and_true, false_and, and_false, true_or, or_true, false_or, or_false, Bool.false_eq_true, b2i_0, b2i_1, bl_0, bl_1, bl_b2, not_true_eq_false, not_false_eq_true, h1, B_X1_tell_23, B_X1_tell_26, B_X1_tell_42, lg_e0, q, kz, hK_wJ]
  · have qF : (w = 0) = False := eq_false q
    rw [if_neg q, if_neg q]
    simp (disch := omega) only [i_lit, i_neg, i_add, i_sub, i_mul, i_ofNat, i_div, i_le, i_lt, i_eq, i_ix, i_inb, i_max, i_min, e_rem, j_lit, j_i, Int.reduceToNat, Int.reduceAdd, Int.reduceSub, Int.reduceMul, Int.reduceNeg, Int.reduceLT, Int.reduceLE, Int.reduceEq, gd_t, gd_T, ↓bd_m, ↓lh_t, ↓on_m, ↓ec_m, ↓reduceIte, if_true, if_false, true_and, and_true, false_and, and_false, true_or, or_true, false_or, or_false, Bool.false_eq_true, b2i_0, b2i_1, bl_0, bl_1, bl_b2, not_true_eq_false, not_false_eq_true, h1, B_X1_tell_23, B_X1_tell_26, B_X1_tell_42, lg_e0, qF, j_eq, kz, hK_wJ]
/-- the relation behind changes of the two objects' own fields and of the tapes -/
theorem RL.zm {o : Nat → Nat} {hC hT : AH} {z m x : Nat} {τ : Nat → Int} {υ : Nat → Int64} {e : Nat → Nat} {el : Nat → Nat → Nat} {lw : Nat} (r : RL o hC hT z m x τ υ e el lw) {hC' hT' : AH} (k1 : hn hC' = hn hC) (kK : hK hC' = hK hC) (kL : hL hC' = hL hC) (kR : hR hC' = hR hC) (s : ∀ a, a ≠ z → a ≠ z + 270 → sm hC hC' a) (ts' : TS hT' m) (w : ∀ a, ((m + 1 ≤ a ∧ a ≤ m + 5) ∨ (m + 18 ≤ a ∧ a ≤ m + 20)) → hI hT' a = hI hT a ∧ hJ hT' a = hJ hT a) (tp' : ∃ T : Nat, T ≤ 400 ∧ hI hC' z 3 = iI T ∧ hI hT' m 9 = iI T ∧ ∀ k : Nat, k < T → ∃ b : Nat, b < 256 ∧ hI hT' (m + 6) k = iI b ∧ hI hC' (z + 270) k = Int8.toInt32 (Int32.toInt8 (iI b))) (f4' : hI hC' z 4 = hI hT' m 18) (f5' : hI hC' z 5 = hI hT' m 19) (j11' : hJ hC' z 11 = hJ hT' m 26) (j12' : hJ hC' z 12 = hJ hT' m 27) : RL o hC' hT' z m x τ υ e el lw := by
  have hnz := r.hnz
  have cs := r.cs
  have oz := r.ow z (Or.inl rfl)
  have oz2 := r.ow (z + 270) (Or.inr ⟨by omega, by omega⟩)
  have nz : ∀ a, o a ≠ 1 → a ≠ z ∧ a ≠ z + 270 := fun a ha => ⟨fun q => ha (by rw [q]; exact oz), fun q => ha (by rw [q]; exact oz2)⟩
  have fim : ∀ a, imK (hK hC a) → sm hC hC' a := fun a ha => s a (fun q => by rw [q, cs.k] at ha; unfold imK at ha; omega) (fun q => by rw [q, cs.k270] at ha; unfold imK at ha; omega)
  have fo : ∀ a, o a ≠ 1 → sm hC hC' a := fun a ha => s a (nz a ha).1 (nz a ha).2
  have crf : ∀ (t x : Nat) (τ : Nat → Int) (υ : Nat → Int64) (e : Nat → Nat) (el : Nat → Nat → Nat) (lw : Nat), t ≠ 1 → CrP o t hC x τ υ e el lw → CrP o t hC' x τ υ e el lw := fun t x τ υ e el lw ht c => c.fr fim (fun a q => ⟨fo a (by omega), q⟩) (fun a q => ⟨fo a (by have := r.h7 a q; omega), fun w => w⟩) (by rw [kR]) (fun a q => ⟨fo a (by omega), q⟩)
  have w' := fun j (hj : (1 ≤ j ∧ j ≤ 5) ∨ (18 ≤ j ∧ j ≤ 20)) => w (m + j) (by omega)
  refine ⟨r.m, ?_, by rw [kR]; exact r.hz, r.ow, crf _ _ _ _ _ _ _ (by omega) r.c, ⟨ts', fun i => by rw [(w' 1 (by omega)).1]; exact r.tn.i i, r.tn.g⟩, fun i => by rw [(w' 3 (by omega)).2]; exact r.tj i, fun i hi => ((r.im i hi).frT (w' 2 (by omega)).1 (w' 4 (by omega)).2 (w' 5 (by omega)).1).frC (by rw [kR]) (fun _ _ _ _ _ _ q => crf _ _ _ _ _ _ _ (by omega) q), fun i hi => ((r.tr i hi).frT (w' 18 (by omega)).1 (w' 19 (by omega)).1 (w' 20 (by omega)).2).frC (by rw [kR]) (fun a q => fo a (by omega)), tp', f4', f5', j11', j12', by rw [k1, kK]; exact r.ho, by rw [k1]; exact r.hnz, by rw [kK, kL, kR]; exact r.hε, by rw [kK]; exact r.h7, r.o0⟩
  unfold CS at cs ⊢
  rw [kK, kL, kR]
  exact cs
theorem RL.frac {o : Nat → Nat} {hC hT : AH} {z m x : Nat} {τ : Nat → Int} {υ : Nat → Int64} {e : Nat → Nat} {el : Nat → Nat → Nat} {lw : Nat} (r : RL o hC hT z m x τ υ e el lw) (p q : Int64) : RL o (wJ (wJ hC z 11 p) z 12 q) (wJ (wJ hT m 26 p) m 27 q) z m x τ υ e el lw := by
  have hm := r.m
  have ts' : TS (wJ (wJ hT m 26 p) m 27 q) m := (r.tn.s.tf (tf_wJ (P := fun a => a = m) rfl)).tf (tf_wJ (P := fun a => a = m) rfl)
  refine r.zm (hC' := wJ (wJ hC z 11 p) z 12 q) (hT' := wJ (wJ hT m 26 p) m 27 q) rfl rfl rfl rfl (fun a q1 q2 => (sm_wJ q1).trans (sm_wJ q1)) ts' (fun a q => ⟨rfl, ((sm_wJ (by omega)).trans (sm_wJ (by omega))).2.2.2.1⟩) r.tp r.f4 r.f5 ?_ ?_
  · rw [hJ_wJ, if_neg (by omega), hJ_wJ, if_pos ⟨rfl, rfl⟩, hJ_wJ, if_neg (by omega), hJ_wJ, if_pos ⟨rfl, rfl⟩]
  · rw [hJ_wJ, if_pos ⟨rfl, rfl⟩, hJ_wJ, if_pos ⟨rfl, rfl⟩]
/-- the product of weights -/
def wpF (τ : Nat → Int) (w i : Nat) (b : Int) : Int := if τ (60 + i) = -1 then b else b * τ (78 + 21 * w + (τ (60 + i)).toNat)
def wpS (τ : Nat → Int) (w i : Nat) : Int := itr (wpF τ w) i 0 1
theorem wpS_s (τ : Nat → Int) (w i : Nat) : wpS τ w (i + 1) = wpF τ w i (wpS τ w i) := by
  unfold wpS
  rw [itr_succ, Nat.zero_add]
theorem wpS_b {τ : Nat → Int} (rg : RG τ) {w : Nat} (hw : w ≤ 1) : ∀ i : Nat, (i : Int) ≤ 3 * τ 4 → 0 ≤ wpS τ w i ∧ wpS τ w i ≤ ((9 ^ i : Nat) : Int) := by
  intro i
  induction i with
  | zero => intro _; exact ⟨by show (0 : Int) ≤ 1; decide, by show (1 : Int) ≤ 1; decide⟩
  | succ i ih =>
    intro hi
    have h1 := ih (by omega)
    have h2 := rg.rise i (by omega)
    rw [wpS_s]
    unfold wpF
    split
    · refine ⟨h1.1, ?_⟩
      rw [Nat.pow_succ]
      push_cast
      have : (0 : Int) ≤ (9 : Int) ^ i := by have := h1; push_cast at this; omega
      have := h1.2
      push_cast at this
      omega
    · have h3 := rg.wgt (21 * w + (τ (60 + i)).toNat) (by omega)
      rw [show 78 + (21 * w + (τ (60 + i)).toNat) = 78 + 21 * w + (τ (60 + i)).toNat by omega] at h3
      refine ⟨Int.mul_nonneg h1.1 h3.1, ?_⟩
      rw [Nat.pow_succ]
      push_cast
      have h4 := h1.2
      push_cast at h4
      calc wpS τ w i * τ (78 + 21 * w + (τ (60 + i)).toNat) ≤ wpS τ w i * 9 := Int.mul_le_mul_of_nonneg_left h3.2 h1.1
        _ ≤ 9 ^ i * 9 := Int.mul_le_mul_of_nonneg_right h4 (by omega)
theorem wpS_c {τ : Nat → Int} (rg : RG τ) {w : Nat} (hw : w ≤ 1) {i : Nat} (hi : (i : Int) ≤ 3 * τ 4) : 0 ≤ wpS τ w i ∧ wpS τ w i < 4611686018427387904 := by
  have h1 := wpS_b rg hw i hi
  have h2 := rg.r
  have h3 : 9 ^ i ≤ 9 ^ 18 := Nat.pow_le_pow_right (by omega) (by omega)
  have h4 : (9 : Nat) ^ 18 = 150094635296999121 := by decide
  omega
theorem hgt0 {τ : Nat → Int} (rg : RG τ) (w : Nat) (hw : w ≤ 1) {v : Int} (hv : 0 ≤ v ∧ v ≤ 20) : 0 ≤ τ (78 + 21 * w + v.toNat) ∧ τ (78 + 21 * w + v.toNat) ≤ 9 := by
  have h3 := rg.wgt (21 * w + v.toNat) (by omega)
  rw [show 78 + (21 * w + v.toNat) = 78 + 21 * w + v.toNat by omega] at h3
  exact h3
theorem oddsC {o : Nat → Nat} {t : Nat} {h : AH} {x : Nat} {τ : Nat → Int} {υ : Nat → Int64} {e : Nat → Nat} {el : Nat → Nat → Nat} {lw : Nat} (c : CrP o t h x τ υ e el lw) {z : Nat} (cs : CS h z) (hz : hR h z 0 = some x) : F_X1_odds h z = F_X1_tell h z (jI (wpS τ 0 (3 * (τ 4).toNat))) (jI (wpS τ 1 (3 * (τ 4).toNat))) := by
  have hr6 := c.rg.r
  have key : ∀ (E : Option AH), (∀ (X : Option AH), X = F_X1_tell h z (jI (wpS τ 0 (3 * (τ 4).toNat))) (jI (wpS τ 1 (3 * (τ 4).toNat))) → X = E) → F_X1_odds h z = E := by
    intro E HE
    unfold F_X1_odds G_X1_odds_7
    refine lp_end (E := fun X => X = E) (fun s k => ∃ i : Nat, s = (h, z, jI (wpS τ 0 (3 * i)), jI (wpS τ 1 (3 * i)), iI i) ∧ (i : Int) ≤ τ 4 ∧ k = (τ 4 - i).toNat) ?_ fuel (τ 4).toNat _ ⟨0, rfl, by omega, by omega⟩ (lt_fuel (by omega))
    rintro self s k ⟨i, rfl, h1, rfl⟩ ih
    unfold L_X1_odds_7
    by_cases ho : τ 4 ≤ (i : Int)
    · have ei : (τ 4).toNat = i := by omega
      rw [ei] at HE
      simp (disch := omega) only [i_lit, i_neg, i_add, i_sub, i_mul, i_ofNat, i_div, i_le, i_lt, i_eq, i_ix, i_inb, i_max, i_min, e_rem, j_lit, j_i, Int.reduceToNat, Int.reduceAdd, Int.reduceSub, Int.reduceMul, Int.reduceNeg, Int.reduceLT, Int.reduceLE, Int.reduceEq, gd_t, gd_T, ↓bd_m, ↓lh_t, ↓on_m, ↓ec_m, ↓reduceIte, if_true, if_false, true_and, and_true, false_and, and_false, true_or, or_true, false_or, or_false, Bool.false_eq_true, b2i_0, b2i_1, bl_0, bl_1, bl_b2, not_true_eq_false, not_false_eq_true, B_X1_odds_7, B_X1_odds_105, cs.k, hz, many_eq c, c.k, c.i9, c.i10, c.r0, c.r1, c.r2, c.r3, c.r4, c.r5, c.r6, c.r7, c.r8, c.a0.k, c.a1.k, c.a2.k, c.a3.k, c.a4.k, size_eq c.a0, size_eq c.a1, size_eq c.a2, size_eq c.a3, size_eq c.a4, c.kb, c.lb, c.kl, c.ll, c.kw, c.lw_, c.kL, c.l, ho]
      refine HE _ ?_
      cases F_X1_tell h z (jI (wpS τ 0 (3 * i))) (jI (wpS τ 1 (3 * i))) <;> rfl
    · obtain ⟨k1, k2, k3, k4, k5, k6, k7⟩ := c.ri i (by omega)
      have k8 := get_eq c.a3 (i := (i : Int)) (by omega) k1
      have nx := ih (h, z, jI (wpS τ 0 (3 * (i + 1))), jI (wpS τ 1 (3 * (i + 1))), iI ((i + 1 : Nat) : Int)) (τ 4 - ((i + 1 : Nat) : Int)).toNat (by omega) ⟨i + 1, rfl, by omega, rfl⟩
      rw [show (((i + 1 : Nat)) : Int) = (i : Int) + 1 by omega] at nx
      have r0 := c.rg.rise (3 * i) (by omega)
      have r1 := c.rg.rise (3 * i + 1) (by omega)
      have r2 := c.rg.rise (3 * i + 2) (by omega)
      rw [show 60 + (3 * i + 1) = 61 + 3 * i by omega] at r1
      rw [show 60 + (3 * i + 2) = 62 + 3 * i by omega] at r2
      have len : hL h (el 3 i) ≤ 3 ∧ 1 ≤ hL h (el 3 i) := by
        rw [k5]
        split
        · omega
        · split <;> omega
      -- the rest of an entry changes nothing
      have rest : ∀ w, wpS τ w (3 * (i + 1)) = wpS τ w (3 * i + hL h (el 3 i)) := by
        intro w
        have e1 : 3 * (i + 1) = 3 * i + 2 + 1 := by omega
        rw [k5]
        by_cases q1 : τ (61 + 3 * i) = -1
        · have q2 := k6 q1
          rw [if_pos q1, e1, wpS_s, show 3 * i + 2 = 3 * i + 1 + 1 by omega, wpS_s]
          unfold wpF
          rw [show 60 + (3 * i + 1 + 1) = 62 + 3 * i by omega, if_pos q2, show 60 + (3 * i + 1) = 61 + 3 * i by omega, if_pos q1]
        · rw [if_neg q1]
          by_cases q2 : τ (62 + 3 * i) = -1
          · rw [if_pos q2, e1, wpS_s]
            unfold wpF
            rw [show 60 + (3 * i + 2) = 62 + 3 * i by omega, if_pos q2]
          · rw [if_neg q2, show 3 * (i + 1) = 3 * i + 3 by omega]
      have pos : ∀ j : Nat, j < hL h (el 3 i) → 0 ≤ τ (60 + 3 * i + j) ∧ τ (60 + 3 * i + j) ≤ 20 := by
        intro j hj
        rw [k5] at hj
        by_cases q1 : τ (61 + 3 * i) = -1
        · rw [if_pos q1] at hj
          rw [show 60 + 3 * i + j = 60 + 3 * i by omega]
          omega
        · rw [if_neg q1] at hj
          by_cases q2 : τ (62 + 3 * i) = -1
          · rw [if_pos q2] at hj
            rcases (show j = 0 ∨ j = 1 by omega) with rfl | rfl
            · rw [Nat.add_zero]; omega
            · rw [show 60 + 3 * i + 1 = 61 + 3 * i by omega]; omega
          · rw [if_neg q2] at hj
            rcases (show j = 0 ∨ j = 1 ∨ j = 2 by omega) with rfl | rfl | rfl
            · rw [Nat.add_zero]; omega
            · rw [show 60 + 3 * i + 1 = 61 + 3 * i by omega]; omega
            · rw [show 60 + 3 * i + 2 = 62 + 3 * i by omega]; omega
      rw [rest 0, rest 1] at nx
      simp (disch := omega) only [i_lit, i_neg, i_add, i_sub, i_mul, i_ofNat, i_div, i_le, i_lt, i_eq, i_ix, i_inb, i_max, i_min, e_rem, j_lit, j_i, Int.reduceToNat, Int.reduceAdd, Int.reduceSub, Int.reduceMul, Int.reduceNeg, Int.reduceLT, Int.reduceLE, Int.reduceEq, gd_t, gd_T, ↓bd_m, ↓lh_t, ↓on_m, ↓ec_m, ↓reduceIte, if_true, if_false, true_and, and_true, false_and, and_false, true_or, or_true, false_or, or_false, Bool.false_eq_true, b2i_0, b2i_1, bl_0, bl_1, bl_b2, not_true_eq_false, not_false_eq_true, B_X1_odds_7, cs.k, hz, many_eq c, c.k, c.i9, c.i10, c.r0, c.r1, c.r2, c.r3, c.r4, c.r5, c.r6, c.r7, c.r8, c.a0.k, c.a1.k, c.a2.k, c.a3.k, c.a4.k, size_eq c.a0, size_eq c.a1, size_eq c.a2, size_eq c.a3, size_eq c.a4, c.kb, c.lb, c.kl, c.ll, c.kw, c.lw_, c.kL, c.l, ho, k8, k2]
      unfold G_X1_odds_47
      refine lp_end (E := fun X => X = E) (fun s k => ∃ j : Nat, s = (h, z, jI (wpS τ 0 (3 * i + j)), jI (wpS τ 1 (3 * i + j)), iI i, el 3 i, iI (hL h (el 3 i)), iI j) ∧ j ≤ hL h (el 3 i) ∧ k = hL h (el 3 i) - j) ?_ fuel (hL h (el 3 i)) _ ⟨0, rfl, by omega, by omega⟩ (lt_fuel (by omega))
      rintro self2 s k ⟨j, rfl, h2, rfl⟩ ih2
      unfold L_X1_odds_47
      by_cases hj : ((hL h (el 3 i) : Nat) : Int) ≤ (j : Int)
      · have ej : hL h (el 3 i) = j := by omega
        rw [ej] at nx
        simp (disch := omega) only [i_lit, i_neg, i_add, i_sub, i_mul, i_ofNat, i_div, i_le, i_lt, i_eq, i_ix, i_inb, i_max, i_min, e_rem, j_lit, j_i, Int.reduceToNat, Int.reduceAdd, Int.reduceSub, Int.reduceMul, Int.reduceNeg, Int.reduceLT, Int.reduceLE, Int.reduceEq, gd_t, gd_T, ↓bd_m, ↓lh_t, ↓on_m, ↓ec_m, ↓reduceIte, if_true, if_false, true_and, and_true, false_and, and_false, true_or, or_true, false_or, or_false, Bool.false_eq_true, b2i_0, b2i_1, bl_0, bl_1, bl_b2, not_true_eq_false, not_false_eq_true, B_X1_odds_47, B_X1_odds_99, hj]
        exact nx
      · have pj := pos j (by omega)
        have vj := k7 j (by omega)
        obtain ⟨wt0, wt1, wt2, wt3⟩ := c.w 0 (by omega)
        obtain ⟨wu0, wu1, wu2, wu3⟩ := c.w 1 (by omega)
        have v0 := wt3 (τ (60 + 3 * i + j)).toNat (by omega)
        have v1 := wu3 (τ (60 + 3 * i + j)).toNat (by omega)
        have g0 := hgt0 c.rg 0 (by omega) pj
        have g1 := hgt0 c.rg 1 (by omega) pj
        have nx2 := ih2 (h, z, jI (wpS τ 0 (3 * i + (j + 1))), jI (wpS τ 1 (3 * i + (j + 1))), iI i, el 3 i, iI (hL h (el 3 i)), iI ((j + 1 : Nat) : Int)) (hL h (el 3 i) - (j + 1)) (by omega) ⟨j + 1, rfl, by omega, rfl⟩
        rw [show (((j + 1 : Nat)) : Int) = (j : Int) + 1 by omega, show 3 * i + (j + 1) = 3 * i + j + 1 by omega, wpS_s, wpS_s] at nx2
        unfold wpF at nx2
        rw [show 60 + (3 * i + j) = 60 + 3 * i + j by omega, if_neg (by omega), if_neg (by omega)] at nx2
        simp (disch := omega) only [i_lit, i_neg, i_add, i_sub, i_mul, i_ofNat, i_div, i_le, i_lt, i_eq, i_ix, i_inb, i_max, i_min, e_rem, j_lit, j_i, Int.reduceToNat, Int.reduceAdd, Int.reduceSub, Int.reduceMul, Int.reduceNeg, Int.reduceLT, Int.reduceLE, Int.reduceEq, gd_t, gd_T, ↓bd_m, ↓lh_t, ↓on_m, ↓ec_m, ↓reduceIte, if_true, if_false, true_and, and_true, false_and, and_false, true_or, or_true, false_or, or_false, Bool.false_eq_true, b2i_0, b2i_1, bl_0, bl_1, bl_b2, not_true_eq_false, not_false_eq_true, B_X1_odds_47, hj, k2, cs.k, hz, c.k, c.r8, c.kw, c.lw_, wt0, wt1, wt2, wu0, wu1, wu2, vj, v0, v1, j_mul, Int.toNat_natCast]
        exact nx2
  exact key _ (fun X hX => hX)
theorem oddsT {h : AH} {m : Nat} {τ : Nat → Int} (t : TN h m τ) (rg : RG τ) : G_X8_odds_13 h m (jI 1) (jI 1) (iI 60) = F_X8_fraction h m (jI (wpS τ 0 (3 * (τ 4).toNat))) (jI (wpS τ 1 (3 * (τ 4).toNat))) := by
  have hr6 := rg.r
  have ts := t.s
  have ti := t.i
  unfold G_X8_odds_13
  refine lp_end (E := fun X => X = F_X8_fraction h m (jI (wpS τ 0 (3 * (τ 4).toNat))) (jI (wpS τ 1 (3 * (τ 4).toNat)))) (fun s k => ∃ i : Nat, s = (h, m, jI (wpS τ 0 i), jI (wpS τ 1 i), iI (60 + (i : Int))) ∧ i ≤ 3 * (τ 4).toNat ∧ k = 3 * (τ 4).toNat - i) ?_ fuel (3 * (τ 4).toNat) _ ⟨0, rfl, by omega, by omega⟩ (lt_fuel (by omega))
  rintro self s k ⟨i, rfl, h1, rfl⟩ ih
  unfold L_X8_odds_13
  by_cases ho : 60 + 3 * τ 4 ≤ 60 + (i : Int)
  · rw [show 3 * (τ 4).toNat = i by omega]
    simp (disch := omega) only [i_lit, i_neg, i_add, i_sub, i_mul, i_ofNat, i_div, i_le, i_lt, i_eq, i_ix, i_inb, i_max, i_min, e_rem, j_lit, j_i, Int.reduceToNat, Int.reduceAdd, Int.reduceSub, Int.reduceMul, Int.reduceNeg, Int.reduceLT, Int.reduceLE, Int.reduceEq, gd_t, gd_T, ↓bd_m, ↓lh_t, ↓on_m, ↓ec_m, ↓reduceIte, if_true, if_false, true_and, and_true, false_and, and_false, true_or, or_true, false_or, or_false, Bool.false_eq_true, b2i_0, b2i_1, bl_0, bl_1, bl_b2, not_true_eq_false, not_false_eq_true, B_X8_odds_13, B_X8_odds_87, ts.k, ts.r1, ts.k1, ts.l1, ts.r2, ts.k2, ts.l2, ts.r3, ts.k3, ts.l3, ts.r4, ts.k4, ts.l4, ts.r5, ts.k5, ts.l5, ts.r6, ts.k6, ts.l6, ts.r7, ts.k7, ts.l7, ts.r8, ts.k8, ts.l8, ts.r9, ts.k9, ts.l9, ts.r10, ts.k10, ts.l10, ts.r11, ts.k11, ts.l11, ts.r12, ts.k12, ts.l12, ts.r13, ts.k13, ts.l13, ts.r14, ts.k14, ts.l14, ts.r15, ts.k15, ts.l15, ts.r16, ts.k16, ts.l16, ts.r17, ts.k17, ts.l17, ts.r18, ts.k18, ts.l18, ts.r19, ts.k19, ts.l19, ts.r20, ts.k20, ts.l20, ti, ho]
    cases F_X8_fraction h m (jI (wpS τ 0 i)) (jI (wpS τ 1 i)) <;> rfl
  · have r0 := rg.rise i (by omega)
    have y1 : (60 + (i : Int)).toNat = 60 + i := by omega
    have nx := ih (h, m, jI (wpS τ 0 (i + 1)), jI (wpS τ 1 (i + 1)), iI (60 + ((i + 1 : Nat) : Int))) (3 * (τ 4).toNat - (i + 1)) (by omega) ⟨i + 1, rfl, by omega, rfl⟩
    rw [show 60 + (((i + 1 : Nat)) : Int) = 60 + (i : Int) + 1 by omega, wpS_s, wpS_s] at nx
    unfold wpF at nx
    by_cases q : τ (60 + i) = -1
    · rw [if_pos q, if_pos q] at nx
      simp (disch := omega) only [i_lit, i_neg, i_add, i_sub, i_mul, i_ofNat, i_div, i_le, i_lt, i_eq, i_ix, i_inb, i_max, i_min, e_rem, j_lit, j_i, Int.reduceToNat, Int.reduceAdd, Int.reduceSub, Int.reduceMul, Int.reduceNeg, Int.reduceLT, Int.reduceLE, Int.reduceEq, gd_t, gd_T, ↓bd_m, ↓lh_t, ↓on_m, ↓ec_m, ↓reduceIte, if_true, if_false, true_and, and_true, false_and, and_false, true_or, or_true, false_or, or_false, Bool.false_eq_true, b2i_0, b2i_1, bl_0, bl_1, bl_b2, not_true_eq_false, not_false_eq_true, B_X8_odds_13, B_X8_odds_81, ts.k, ts.r1, ts.k1, ts.l1, ts.r2, ts.k2, ts.l2, ts.r3, ts.k3, ts.l3, ts.r4, ts.k4, ts.l4, ts.r5, ts.k5, ts.l5, ts.r6, ts.k6, ts.l6, ts.r7, ts.k7, ts.l7, ts.r8, ts.k8, ts.l8, ts.r9, ts.k9, ts.l9, ts.r10, ts.k10, ts.l10, ts.r11, ts.k11, ts.l11, ts.r12, ts.k12, ts.l12, ts.r13, ts.k13, ts.l13, ts.r14, ts.k14, ts.l14, ts.r15, ts.k15, ts.l15, ts.r16, ts.k16, ts.l16, ts.r17, ts.k17, ts.l17, ts.r18, ts.k18, ts.l18, ts.r19, ts.k19, ts.l19, ts.r20, ts.k20, ts.l20, ti, ho, y1, q]
      exact nx
    · rw [if_neg q, if_neg q] at nx
      have qF : (τ (60 + i) = -1) = False := eq_false q
      have y2 : (78 + τ (60 + i)).toNat = 78 + 21 * 0 + (τ (60 + i)).toNat := by omega
      have y3 : (99 + τ (60 + i)).toNat = 78 + 21 * 1 + (τ (60 + i)).toNat := by omega
      have g0 := hgt0 rg 0 (by omega) (v := τ (60 + i)) (by omega)
      have g1 := hgt0 rg 1 (by omega) (v := τ (60 + i)) (by omega)
      simp (disch := omega) only [i_lit, i_neg, i_add, i_sub, i_mul, i_ofNat, i_div, i_le, i_lt, i_eq, i_ix, i_inb, i_max, i_min, e_rem, j_lit, j_i, Int.reduceToNat, Int.reduceAdd, Int.reduceSub, Int.reduceMul, Int.reduceNeg, Int.reduceLT, Int.reduceLE, Int.reduceEq, gd_t, gd_T, ↓bd_m, ↓lh_t, ↓on_m, ↓ec_m, ↓reduceIte, if_true, if_false, true_and, and_true, false_and, and_false, true_or, or_true, false_or, or_false, Bool.false_eq_true, b2i_0, b2i_1, bl_0, bl_1, bl_b2, not_true_eq_false, not_false_eq_true, B_X8_odds_13, B_X8_odds_81, ts.k, ts.r1, ts.k1, ts.l1, ts.r2, ts.k2, ts.l2, ts.r3, ts.k3, ts.l3, ts.r4, ts.k4, ts.l4, ts.r5, ts.k5, ts.l5, ts.r6, ts.k6, ts.l6, ts.r7, ts.k7, ts.l7, ts.r8, ts.k8, ts.l8, ts.r9, ts.k9, ts.l9, ts.r10, ts.k10, ts.l10, ts.r11, ts.k11, ts.l11, ts.r12, ts.k12, ts.l12, ts.r13, ts.k13, ts.l13, ts.r14, ts.k14, ts.l14, ts.r15, ts.k15, ts.l15, ts.r16, ts.k16, ts.l16, ts.r17, ts.k17, ts.l17, ts.r18, ts.k18, ts.l18, ts.r19, ts.k19, ts.l19, ts.r20, ts.k20, ts.l20, ti, ho, y1, y2, y3, qF, j_mul]
      exact nx
theorem FC.frac {z : Nat} {h : AH} {p q : Int64} : FC z h (wJ (wJ h z 11 p) z 12 q) := ⟨⟨Nat.le_refl _, by rw [hc_wJ, hc_wJ]; omega, by rw [hs_wJ, hs_wJ]; omega⟩, fun b q1 q2 => (sm_wJ (by omega)).trans (sm_wJ (by omega)), Eq.refl _, Eq.refl _⟩
theorem op_odds {z m : Nat} : ∀ hC hT, Rx hC hT z m → rm z hC → Ok2 (F_X1_odds hC z) (F_X8_odds hT m) (fun a b => True ∧ FC z hC a ∧ FT m hT b ∧ Rx a b z m) := by
  intro hC hT ⟨o, x, τ, υ, e, el, lw, r⟩ g
  have hn4 := r.c.rg.n
  have cs := r.cs
  have c := r.c
  have hz := r.hz
  have ts0 := r.tn.s
  have tn := r.tn.wm 5 (iI 0)
  have ti := tn.i
  have ts := tn.s
  have hgi := c.rg.i
  have gr : 1 ≤ hc hC ∧ 6 ≤ hs hC := by have := g.1; have := g.2.1; omega
  have hr6 := c.rg.r
  obtain ⟨p, q, e1, e2⟩ := frac_run (h := hC) (hT := wI hT m 5 (iI 0)) cs.k ts.k (wpS_c c.rg (w := 0) (by omega) (i := 3 * (τ 4).toNat) (by omega)) (wpS_c c.rg (w := 1) (by omega) (i := 3 * (τ 4).toNat) (by omega))
  rw [oddsC c cs hz, e1]
  simp (disch := omega) only [i_lit, i_neg, i_add, i_sub, i_mul, i_ofNat, i_div, i_le, i_lt, i_eq, i_ix, i_inb, i_max, i_min, e_rem, j_lit, j_i, Int.reduceToNat, Int.reduceAdd, Int.reduceSub, Int.reduceMul, Int.reduceNeg, Int.reduceLT, Int.reduceLE, Int.reduceEq, gd_t, gd_T, ↓bd_m, ↓lh_t, ↓on_m, ↓ec_m, ↓reduceIte, if_true, if_false, true_and, and_true, false_and, and_false, true_or, or_true, false_or, or_false, Bool.false_eq_true, b2i_0, b2i_1, bl_0, bl_1, bl_b2, not_true_eq_false, not_false_eq_true, F_X8_odds, B_X8_odds_5, ts0.k, oddsT tn c.rg, e2]
  exact Ok2.some ⟨FC.frac, ((FT.thr _ _ _ _).trans (tf_wJ (by omega))).trans (tf_wJ (by omega)), ⟨o, x, τ, υ, e, el, lw, (r.thr 5 (by omega) _).frac p q⟩⟩
/-- a call that answers a boolean -/
def VB (z m : Nat) (a : Int32 × AH) (b : Int32 × AH) : Prop := a.1 = hI b.2 m 5 ∧ (a.1 = 0 → hJ a.2 (z + 495) 0 = if b.1 = 0 then 0 else 1)
theorem FC.frac1 {z : Nat} {h : AH} {p q : Int64} {k : Nat} {v : Int64} : FC z h (wJ (wJ (wJ h z 11 p) z 12 q) (z + 495) k v) := ⟨⟨Nat.le_refl _, by rw [hc_wJ, hc_wJ, hc_wJ]; omega, by rw [hs_wJ, hs_wJ, hs_wJ]; omega⟩, fun b q1 q2 => ((sm_wJ (by omega)).trans (sm_wJ (by omega))).trans (sm_wJ (by omega)), Eq.refl _, Eq.refl _⟩
theorem pass_run {o : Nat → Nat} {t : Nat} {h : AH} {x : Nat} {τ : Nat → Int} {υ : Nat → Int64} {e : Nat → Nat} {el : Nat → Nat → Nat} {lw : Nat} (c : CrP o t h x τ υ e el lw) {z : Nat} (cs : CS h z) (hz : hR h z 0 = some x) {hT : AH} {m : Nat} (t1 : TN hT m τ) {s n : Int} (hs : 0 ≤ s ∧ s < τ 0) (hn : 1 ≤ n ∧ n ≤ 24) (x3 : Int32) : Ok2 (G_X1_passed_27 h z (iI s) (iI n) x3 (jI 0) (jI 0) (iI 0)) (G_X8_passed_53 hT m (iI s) (iI n) x3 (jI 0) (jI 0) (iI 3149)) (fun a b => (a = .inl (iI 0, h) ∧ b = (iI 0, hT)) ∨ ∃ p q, a = .inl (iI 1, wJ (wJ h z 11 p) z 12 q) ∧ b = (iI 1, wJ (wJ hT m 26 p) m 27 q)) := by
  have hn4 := c.rg.n
  have hc10 := c.rg.c
  have r2 := c.rg.h
  have ts := t1.s
  have ti := t1.i
  unfold G_X1_passed_27 G_X8_passed_53
  refine lp_ok2 (fun st u k => ∃ (a b : Int) (i : Nat), st = (h, z, iI s, iI n, x3, jI a, jI b, iI i) ∧ u = (hT, m, iI s, iI n, x3, jI a, jI b, iI (3149 + 3 * (i : Int))) ∧ (i : Int) ≤ τ 6 ∧ k = (τ 6 - i).toNat ∧ (0 ≤ a ∧ a ≤ 99 * (i : Int)) ∧ (0 ≤ b ∧ b ≤ 99 * (i : Int))) ?_ fuel (τ 6).toNat _ _ ⟨0, 0, 0, rfl, rfl, by omega, by omega, by omega, by omega⟩ (lt_fuel (by omega))
  rintro f1 f2 st u k ⟨a, b, i, rfl, rfl, h1, rfl, ha, hb⟩ ih
  unfold L_X1_passed_27 L_X8_passed_53
  by_cases ho : τ 6 ≤ (i : Int)
  · have hoT : (3149 + 3 * τ 6 ≤ 3149 + 3 * (i : Int)) = True := eq_true (by omega)
    by_cases qb : b = 0
    · simp (disch := omega) only [i_lit, i_neg, i_add, i_sub, i_mul, i_ofNat, i_div, i_le, i_lt, i_eq, i_ix, i_inb, i_max, i_min, e_rem, j_lit, j_i, Int.reduceToNat, Int.reduceAdd, Int.reduceSub, Int.reduceMul, Int.reduceNeg, Int.reduceLT, Int.reduceLE, Int.reduceEq, gd_t, gd_T, ↓bd_m, ↓lh_t, ↓on_m, ↓ec_m, ↓reduceIte, if_true, if_false, true_and, and_true, false_and, and_false, true_or, or_true, false_or, or_false, Bool.false_eq_true, b2i_0, b2i_1, bl_0, bl_1, bl_b2, not_true_eq_false, not_false_eq_true, B_X1_passed_27, B_X1_passed_190, B_X8_passed_53, B_X8_passed_210, cs.k, hz, many_eq c, c.k, c.i9, c.i10, c.r0, c.r1, c.r2, c.r3, c.r4, c.r5, c.r6, c.r7, c.r8, c.a0.k, c.a1.k, c.a2.k, c.a3.k, c.a4.k, size_eq c.a0, size_eq c.a1, size_eq c.a2, size_eq c.a3, size_eq c.a4, c.kb, c.lb, c.kl, c.ll, c.kw, c.lw_, c.kL, c.l, ts.k, ts.r1, ts.k1, ts.l1, ts.r2, ts.k2, ts.l2, ts.r3, ts.k3, ts.l3, ts.r4, ts.k4, ts.l4, ts.r5, ts.k5, ts.l5, ts.r6, ts.k6, ts.l6, ts.r7, ts.k7, ts.l7, ts.r8, ts.k8, ts.l8, ts.r9, ts.k9, ts.l9, ts.r10, ts.k10, ts.l10, ts.r11, ts.k11, ts.l11, ts.r12, ts.k12, ts.l12, ts.r13, ts.k13, ts.l13, ts.r14, ts.k14, ts.l14, ts.r15, ts.k15, ts.l15, ts.r16, ts.k16, ts.l16, ts.r17, ts.k17, ts.l17, ts.r18, ts.k18, ts.l18, ts.r19, ts.k19, ts.l19, ts.r20, ts.k20, ts.l20, ti, ho, hoT, lg_e0, qb]
      exact Ok2.some (Or.inl ⟨rfl, rfl⟩)
    · have qF : (b = 0) = False := eq_false qb
      obtain ⟨p, q, e1, e2⟩ := frac_run (h := h) (hT := hT) cs.k ts.k (u := a) (v := b) (by omega) (by omega)
      simp (disch := omega) only [i_lit, i_neg, i_add, i_sub, i_mul, i_ofNat, i_div, i_le, i_lt, i_eq, i_ix, i_inb, i_max, i_min, e_rem, j_lit, j_i, Int.reduceToNat, Int.reduceAdd, Int.reduceSub, Int.reduceMul, Int.reduceNeg, Int.reduceLT, Int.reduceLE, Int.reduceEq, gd_t, gd_T, ↓bd_m, ↓lh_t, ↓on_m, ↓ec_m, ↓reduceIte, if_true, if_false, true_and, and_true, false_and, and_false, true_or, or_true, false_or, or_false, Bool.false_eq_true, b2i_0, b2i_1, bl_0, bl_1, bl_b2, not_true_eq_false, not_false_eq_true, B_X1_passed_27, B_X1_passed_190, B_X8_passed_53, B_X8_passed_210, cs.k, hz, many_eq c, c.k, c.i9, c.i10, c.r0, c.r1, c.r2, c.r3, c.r4, c.r5, c.r6, c.r7, c.r8, c.a0.k, c.a1.k, c.a2.k, c.a3.k, c.a4.k, size_eq c.a0, size_eq c.a1, size_eq c.a2, size_eq c.a3, size_eq c.a4, c.kb, c.lb, c.kl, c.ll, c.kw, c.lw_, c.kL, c.l, ts.k, ts.r1, ts.k1, ts.l1, ts.r2, ts.k2, ts.l2, ts.r3, ts.k3, ts.l3, ts.r4, ts.k4, ts.l4, ts.r5, ts.k5, ts.l5, ts.r6, ts.k6, ts.l6, ts.r7, ts.k7, ts.l7, ts.r8, ts.k8, ts.l8, ts.r9, ts.k9, ts.l9, ts.r10, ts.k10, ts.l10, ts.r11, ts.k11, ts.l11, ts.r12, ts.k12, ts.l12, ts.r13, ts.k13, ts.l13, ts.r14, ts.k14, ts.l14, ts.r15, ts.k15, ts.l15, ts.r16, ts.k16, ts.l16, ts.r17, ts.k17, ts.l17, ts.r18, ts.k18, ts.l18, ts.r19, ts.k19, ts.l19, ts.r20, ts.k20, ts.l20, ti, ho, hoT, lg_e0, qF, e1, e2]
      exact Ok2.some (Or.inr ⟨p, q, rfl, rfl⟩)
  · have hoF : (3149 + 3 * τ 6 ≤ 3149 + 3 * (i : Int)) = False := eq_false (by omega)
    obtain ⟨k1, k2, k3, k4, k5⟩ := c.ch i (by omega)
    have k6 := get_eq c.a2 (i := (i : Int)) (by omega) k1
    obtain ⟨g1, g2, g3⟩ := c.rg.chn i (by omega)
    have y0 : (3149 + 3 * (i : Int)).toNat = 3149 + 3 * i := by omega
    have y1 : (3149 + 3 * (i : Int) + 1).toNat = 3150 + 3 * i := by omega
    have y2 : (3149 + 3 * (i : Int) + 2).toNat = 3151 + 3 * i := by omega
    have nx := fun a' b' ha' hb' => ih (h, z, iI s, iI n, x3, jI a', jI b', iI ((i + 1 : Nat) : Int)) (hT, m, iI s, iI n, x3, jI a', jI b', iI (3149 + 3 * ((i + 1 : Nat) : Int))) (τ 6 - ((i + 1 : Nat) : Int)).toNat (by omega) ⟨a', b', i + 1, rfl, rfl, by omega, rfl, ha', hb'⟩
    rw [show 3149 + 3 * (((i + 1 : Nat)) : Int) = 3149 + 3 * (i : Int) + 3 by omega, show (((i + 1 : Nat)) : Int) = (i : Int) + 1 by omega] at nx
    have nx0 := nx a b (by omega) (by omega)
    by_cases qs : τ (3149 + 3 * i) = s
    · have qT : (τ (3149 + 3 * i) = s) = True := eq_true qs
      -- behind the sign
      have sg : ∀ v : Int32, Ok2 (B_X1_passed_90 h (fun h a0 x1 x2 x3 l4 l6 x8 => f1 (h, a0, x1, x2, x3, l4, l6, x8)) z (iI s) (iI n) x3 (jI a) (jI b) (iI i) (el 2 i) (iI (τ (3150 + 3 * i) - 1)) v) (B_X8_passed_110 hT (fun h a0 x1 x2 x3 l4 l6 x8 => f2 (h, a0, x1, x2, x3, l4, l6, x8)) m (iI s) (iI n) x3 (jI a) (jI b) (iI (3149 + 3 * (i : Int))) (iI (τ (3150 + 3 * i))) v) (fun a b => (a = .inl (iI 0, h) ∧ b = (iI 0, hT)) ∨ ∃ p q, a = .inl (iI 1, wJ (wJ h z 11 p) z 12 q) ∧ b = (iI 1, wJ (wJ hT m 26 p) m 27 q)) := by
        intro v
        by_cases qv : v = x3
        · have vT : (v = x3) = True := eq_true qv
          have b1 := isBoard_eq c (y := τ (3150 + 3 * i) - 1) (by omega)
          have b2_ := isBoardT_eq t1 r2 (y := τ (3150 + 3 * i) - 1) (by omega)
          by_cases w1 : max 0 (τ 2 - 256) ≤ τ (3150 + 3 * i) - 1 ∧ τ (3150 + 3 * i) - 1 ≤ τ 2 - 1
          · rw [b2_t w1] at b1 b2_
            have b3 := isBoard_eq c (y := τ (3150 + 3 * i) - 1 + n) (by omega)
            have b4 := isBoardT_eq t1 r2 (y := τ (3150 + 3 * i) - 1 + n) (by omega)
            by_cases w2 : max 0 (τ 2 - 256) ≤ τ (3150 + 3 * i) - 1 + n ∧ τ (3150 + 3 * i) - 1 + n ≤ τ 2 - 1
            · rw [b2_t w2] at b3 b4
              have a1 := at_eq c (s := s) (y := τ (3150 + 3 * i) - 1 + n) (by omega) (by omega)
              have a2 := at_eq c (s := s) (y := τ (3150 + 3 * i) - 1) (by omega) (by omega)
              have a3 := boardOf_eq t1 (s := s) (y := τ (3150 + 3 * i) - 1 + n) (by omega) (by omega)
              have a4 := boardOf_eq t1 (s := s) (y := τ (3150 + 3 * i) - 1) (by omega) (by omega)
              have c1 := bo_rng c.rg (s := s) (y := τ (3150 + 3 * i) - 1 + n) (by omega) (by omega)
              have c2 := bo_rng c.rg (s := s) (y := τ (3150 + 3 * i) - 1) (by omega) (by omega)
              unfold bo at c1 c2
              generalize τ (1885 + 4 * ((τ (3150 + 3 * i) - 1 + n) % 256) + s).toNat = P at a1 a3 c1
              generalize τ (1885 + 4 * ((τ (3150 + 3 * i) - 1) % 256) + s).toNat = Q at a2 a4 c2
              have ab := i_abs (a := τ (3151 + 3 * i)) (by omega)
              by_cases q3 : x3 = iI 0
              · have t3 : (x3 = iI 0) = True := eq_true q3
                have nx1 := nx (a + max 0 (-(P - Q))) (b + ((τ (3151 + 3 * i)).natAbs : Int)) (by omega) (by omega)
                simp (disch := omega) only [i_lit, i_neg, i_add, i_sub, i_mul, i_ofNat, i_div, i_le, i_lt, i_eq, i_ix, i_inb, i_max, i_min, e_rem, j_lit, j_i, Int.reduceToNat, Int.reduceAdd, Int.reduceSub, Int.reduceMul, Int.reduceNeg, Int.reduceLT, Int.reduceLE, Int.reduceEq, gd_t, gd_T, ↓bd_m, ↓lh_t, ↓on_m, ↓ec_m, ↓reduceIte, if_true, if_false, true_and, and_true, false_and, and_false, true_or, or_true, false_or, or_false, Bool.false_eq_true, b2i_0, b2i_1, bl_0, bl_1, bl_b2, not_true_eq_false, not_false_eq_true, B_X1_passed_90, B_X1_passed_163, B_X1_passed_184, B_X8_passed_110, B_X8_passed_179, B_X8_passed_204, cs.k, hz, many_eq c, c.k, c.i9, c.i10, c.r0, c.r1, c.r2, c.r3, c.r4, c.r5, c.r6, c.r7, c.r8, c.a0.k, c.a1.k, c.a2.k, c.a3.k, c.a4.k, size_eq c.a0, size_eq c.a1, size_eq c.a2, size_eq c.a3, size_eq c.a4, c.kb, c.lb, c.kl, c.ll, c.kw, c.lw_, c.kL, c.l, ts.k, ts.r1, ts.k1, ts.l1, ts.r2, ts.k2, ts.l2, ts.r3, ts.k3, ts.l3, ts.r4, ts.k4, ts.l4, ts.r5, ts.k5, ts.l5, ts.r6, ts.k6, ts.l6, ts.r7, ts.k7, ts.l7, ts.r8, ts.k8, ts.l8, ts.r9, ts.k9, ts.l9, ts.r10, ts.k10, ts.l10, ts.r11, ts.k11, ts.l11, ts.r12, ts.k12, ts.l12, ts.r13, ts.k13, ts.l13, ts.r14, ts.k14, ts.l14, ts.r15, ts.k15, ts.l15, ts.r16, ts.k16, ts.l16, ts.r17, ts.k17, ts.l17, ts.r18, ts.k18, ts.l18, ts.r19, ts.k19, ts.l19, ts.r20, ts.k20, ts.l20, ti, vT, b1, b2_, b3, b4, a1, a2, a3, a4, t3, k2, k5, y2, ab, j_add]
                exact nx1
              · have t3 : (x3 = iI 0) = False := eq_false q3
                have nx1 := nx (a + max 0 (P - Q)) (b + ((τ (3151 + 3 * i)).natAbs : Int)) (by omega) (by omega)
                simp (disch := omega) only [i_lit, i_neg, i_add, i_sub, i_mul, i_ofNat, i_div, i_le, i_lt, i_eq, i_ix, i_inb, i_max, i_min, e_rem, j_lit, j_i, Int.reduceToNat, Int.reduceAdd, Int.reduceSub, Int.reduceMul, Int.reduceNeg, Int.reduceLT, Int.reduceLE, Int.reduceEq, gd_t, gd_T, ↓bd_m, ↓lh_t, ↓on_m, ↓ec_m, ↓reduceIte, if_true, if_false, true_and, and_true, false_and, and_false, true_or, or_true, false_or, or_false, Bool.false_eq_true, b2i_0, b2i_1, bl_0, bl_1, bl_b2, not_true_eq_false, not_false_eq_true, B_X1_passed_90, B_X1_passed_163, B_X1_passed_184, B_X8_passed_110, B_X8_passed_179, B_X8_passed_204, cs.k, hz, many_eq c, c.k, c.i9, c.i10, c.r0, c.r1, c.r2, c.r3, c.r4, c.r5, c.r6, c.r7, c.r8, c.a0.k, c.a1.k, c.a2.k, c.a3.k, c.a4.k, size_eq c.a0, size_eq c.a1, size_eq c.a2, size_eq c.a3, size_eq c.a4, c.kb, c.lb, c.kl, c.ll, c.kw, c.lw_, c.kL, c.l, ts.k, ts.r1, ts.k1, ts.l1, ts.r2, ts.k2, ts.l2, ts.r3, ts.k3, ts.l3, ts.r4, ts.k4, ts.l4, ts.r5, ts.k5, ts.l5, ts.r6, ts.k6, ts.l6, ts.r7, ts.k7, ts.l7, ts.r8, ts.k8, ts.l8, ts.r9, ts.k9, ts.l9, ts.r10, ts.k10, ts.l10, ts.r11, ts.k11, ts.l11, ts.r12, ts.k12, ts.l12, ts.r13, ts.k13, ts.l13, ts.r14, ts.k14, ts.l14, ts.r15, ts.k15, ts.l15, ts.r16, ts.k16, ts.l16, ts.r17, ts.k17, ts.l17, ts.r18, ts.k18, ts.l18, ts.r19, ts.k19, ts.l19, ts.r20, ts.k20, ts.l20, ti, vT, b1, b2_, b3, b4, a1, a2, a3, a4, t3, k2, k5, y2, ab, j_add]
                exact nx1
            · rw [b2_f w2] at b3 b4
              simp (disch := omega) only [i_lit, i_neg, i_add, i_sub, i_mul, i_ofNat, i_div, i_le, i_lt, i_eq, i_ix, i_inb, i_max, i_min, e_rem, j_lit, j_i, Int.reduceToNat, Int.reduceAdd, Int.reduceSub, Int.reduceMul, Int.reduceNeg, Int.reduceLT, Int.reduceLE, Int.reduceEq, gd_t, gd_T, ↓bd_m, ↓lh_t, ↓on_m, ↓ec_m, ↓reduceIte, if_true, if_false, true_and, and_true, false_and, and_false, true_or, or_true, false_or, or_false, Bool.false_eq_true, b2i_0, b2i_1, bl_0, bl_1, bl_b2, not_true_eq_false, not_false_eq_true, B_X1_passed_90, B_X1_passed_184, B_X8_passed_110, B_X8_passed_204, cs.k, hz, many_eq c, c.k, c.i9, c.i10, c.r0, c.r1, c.r2, c.r3, c.r4, c.r5, c.r6, c.r7, c.r8, c.a0.k, c.a1.k, c.a2.k, c.a3.k, c.a4.k, size_eq c.a0, size_eq c.a1, size_eq c.a2, size_eq c.a3, size_eq c.a4, c.kb, c.lb, c.kl, c.ll, c.kw, c.lw_, c.kL, c.l, ts.k, ts.r1, ts.k1, ts.l1, ts.r2, ts.k2, ts.l2, ts.r3, ts.k3, ts.l3, ts.r4, ts.k4, ts.l4, ts.r5, ts.k5, ts.l5, ts.r6, ts.k6, ts.l6, ts.r7, ts.k7, ts.l7, ts.r8, ts.k8, ts.l8, ts.r9, ts.k9, ts.l9, ts.r10, ts.k10, ts.l10, ts.r11, ts.k11, ts.l11, ts.r12, ts.k12, ts.l12, ts.r13, ts.k13, ts.l13, ts.r14, ts.k14, ts.l14, ts.r15, ts.k15, ts.l15, ts.r16, ts.k16, ts.l16, ts.r17, ts.k17, ts.l17, ts.r18, ts.k18, ts.l18, ts.r19, ts.k19, ts.l19, ts.r20, ts.k20, ts.l20, vT, b1, b2_, b3, b4]
              exact nx0
          · rw [b2_f w1] at b1 b2_
            simp (disch := omega) only [i_lit, i_neg, i_add, i_sub, i_mul, i_ofNat, i_div, i_le, i_lt, i_eq, i_ix, i_inb, i_max, i_min, e_rem, j_lit, j_i, Int.reduceToNat, Int.reduceAdd, Int.reduceSub, Int.reduceMul, Int.reduceNeg, Int.reduceLT, Int.reduceLE, Int.reduceEq, gd_t, gd_T, ↓bd_m, ↓lh_t, ↓on_m, ↓ec_m, ↓reduceIte, if_true, if_false, true_and, and_true, false_and, and_false, true_or, or_true, false_or, or_false, Bool.false_eq_true, b2i_0, b2i_1, bl_0, bl_1, bl_b2, not_true_eq_false, not_false_eq_true, B_X1_passed_90, B_X1_passed_184, B_X8_passed_110, B_X8_passed_204, cs.k, hz, many_eq c, c.k, c.i9, c.i10, c.r0, c.r1, c.r2, c.r3, c.r4, c.r5, c.r6, c.r7, c.r8, c.a0.k, c.a1.k, c.a2.k, c.a3.k, c.a4.k, size_eq c.a0, size_eq c.a1, size_eq c.a2, size_eq c.a3, size_eq c.a4, c.kb, c.lb, c.kl, c.ll, c.kw, c.lw_, c.kL, c.l, ts.k, ts.r1, ts.k1, ts.l1, ts.r2, ts.k2, ts.l2, ts.r3, ts.k3, ts.l3, ts.r4, ts.k4, ts.l4, ts.r5, ts.k5, ts.l5, ts.r6, ts.k6, ts.l6, ts.r7, ts.k7, ts.l7, ts.r8, ts.k8, ts.l8, ts.r9, ts.k9, ts.l9, ts.r10, ts.k10, ts.l10, ts.r11, ts.k11, ts.l11, ts.r12, ts.k12, ts.l12, ts.r13, ts.k13, ts.l13, ts.r14, ts.k14, ts.l14, ts.r15, ts.k15, ts.l15, ts.r16, ts.k16, ts.l16, ts.r17, ts.k17, ts.l17, ts.r18, ts.k18, ts.l18, ts.r19, ts.k19, ts.l19, ts.r20, ts.k20, ts.l20, vT, b1, b2_]
            exact nx0
        · have vF : (v = x3) = False := eq_false qv
          simp (disch := omega) only [i_lit, i_neg, i_add, i_sub, i_mul, i_ofNat, i_div, i_le, i_lt, i_eq, i_ix, i_inb, i_max, i_min, e_rem, j_lit, j_i, Int.reduceToNat, Int.reduceAdd, Int.reduceSub, Int.reduceMul, Int.reduceNeg, Int.reduceLT, Int.reduceLE, Int.reduceEq, gd_t, gd_T, ↓bd_m, ↓lh_t, ↓on_m, ↓ec_m, ↓reduceIte, if_true, if_false, true_and, and_true, false_and, and_false, true_or, or_true, false_or, or_false, Bool.false_eq_true, b2i_0, b2i_1, bl_0, bl_1, bl_b2, not_true_eq_false, not_false_eq_true, B_X1_passed_90, B_X1_passed_184, B_X8_passed_110, B_X8_passed_204, vF]
          exact nx0
      by_cases qz : τ (3151 + 3 * i) ≤ 0
      · simp (disch := omega) only [i_lit, i_neg, i_add, i_sub, i_mul, i_ofNat, i_div, i_le, i_lt, i_eq, i_ix, i_inb, i_max, i_min, e_rem, j_lit, j_i, Int.reduceToNat, Int.reduceAdd, Int.reduceSub, Int.reduceMul, Int.reduceNeg, Int.reduceLT, Int.reduceLE, Int.reduceEq, gd_t, gd_T, ↓bd_m, ↓lh_t, ↓on_m, ↓ec_m, ↓reduceIte, if_true, if_false, true_and, and_true, false_and, and_false, true_or, or_true, false_or, or_false, Bool.false_eq_true, b2i_0, b2i_1, bl_0, bl_1, bl_b2, not_true_eq_false, not_false_eq_true, B_X1_passed_27, B_X8_passed_53, cs.k, hz, many_eq c, c.k, c.i9, c.i10, c.r0, c.r1, c.r2, c.r3, c.r4, c.r5, c.r6, c.r7, c.r8, c.a0.k, c.a1.k, c.a2.k, c.a3.k, c.a4.k, size_eq c.a0, size_eq c.a1, size_eq c.a2, size_eq c.a3, size_eq c.a4, c.kb, c.lb, c.kl, c.ll, c.kw, c.lw_, c.kL, c.l, ts.k, ts.r1, ts.k1, ts.l1, ts.r2, ts.k2, ts.l2, ts.r3, ts.k3, ts.l3, ts.r4, ts.k4, ts.l4, ts.r5, ts.k5, ts.l5, ts.r6, ts.k6, ts.l6, ts.r7, ts.k7, ts.l7, ts.r8, ts.k8, ts.l8, ts.r9, ts.k9, ts.l9, ts.r10, ts.k10, ts.l10, ts.r11, ts.k11, ts.l11, ts.r12, ts.k12, ts.l12, ts.r13, ts.k13, ts.l13, ts.r14, ts.k14, ts.l14, ts.r15, ts.k15, ts.l15, ts.r16, ts.k16, ts.l16, ts.r17, ts.k17, ts.l17, ts.r18, ts.k18, ts.l18, ts.r19, ts.k19, ts.l19, ts.r20, ts.k20, ts.l20, ti, ho, hoF, k6, k2, k3, k4, k5, y0, y1, y2, qT, qz]
        exact sg _
      · simp (disch := omega) only [i_lit, i_neg, i_add, i_sub, i_mul, i_ofNat, i_div, i_le, i_lt, i_eq, i_ix, i_inb, i_max, i_min, e_rem, j_lit, j_i, Int.reduceToNat, Int.reduceAdd, Int.reduceSub, Int.reduceMul, Int.reduceNeg, Int.reduceLT, Int.reduceLE, Int.reduceEq, gd_t, gd_T, ↓bd_m, ↓lh_t, ↓on_m, ↓ec_m, ↓reduceIte, if_true, if_false, true_and, and_true, false_and, and_false, true_or, or_true, false_or, or_false, Bool.false_eq_true, b2i_0, b2i_1, bl_0, bl_1, bl_b2, not_true_eq_false, not_false_eq_true, B_X1_passed_27, B_X8_passed_53, cs.k, hz, many_eq c, c.k, c.i9, c.i10, c.r0, c.r1, c.r2, c.r3, c.r4, c.r5, c.r6, c.r7, c.r8, c.a0.k, c.a1.k, c.a2.k, c.a3.k, c.a4.k, size_eq c.a0, size_eq c.a1, size_eq c.a2, size_eq c.a3, size_eq c.a4, c.kb, c.lb, c.kl, c.ll, c.kw, c.lw_, c.kL, c.l, ts.k, ts.r1, ts.k1, ts.l1, ts.r2, ts.k2, ts.l2, ts.r3, ts.k3, ts.l3, ts.r4, ts.k4, ts.l4, ts.r5, ts.k5, ts.l5, ts.r6, ts.k6, ts.l6, ts.r7, ts.k7, ts.l7, ts.r8, ts.k8, ts.l8, ts.r9, ts.k9, ts.l9, ts.r10, ts.k10, ts.l10, ts.r11, ts.k11, ts.l11, ts.r12, ts.k12, ts.l12, ts.r13, ts.k13, ts.l13, ts.r14, ts.k14, ts.l14, ts.r15, ts.k15, ts.l15, ts.r16, ts.k16, ts.l16, ts.r17, ts.k17, ts.l17, ts.r18, ts.k18, ts.l18, ts.r19, ts.k19, ts.l19, ts.r20, ts.k20, ts.l20, ti, ho, hoF, k6, k2, k3, k4, k5, y0, y1, y2, qT, qz]
        exact sg _
    · have qF : (τ (3149 + 3 * i) = s) = False := eq_false qs
      simp (disch := omega) only [i_lit, i_neg, i_add, i_sub, i_mul, i_ofNat, i_div, i_le, i_lt, i_eq, i_ix, i_inb, i_max, i_min, e_rem, j_lit, j_i, Int.reduceToNat, Int.reduceAdd, Int.reduceSub, Int.reduceMul, Int.reduceNeg, Int.reduceLT, Int.reduceLE, Int.reduceEq, gd_t, gd_T, ↓bd_m, ↓lh_t, ↓on_m, ↓ec_m, ↓reduceIte, if_true, if_false, true_and, and_true, false_and, and_false, true_or, or_true, false_or, or_false, Bool.false_eq_true, b2i_0, b2i_1, bl_0, bl_1, bl_b2, not_true_eq_false, not_false_eq_true, B_X1_passed_27, B_X1_passed_184, B_X8_passed_53, B_X8_passed_204, cs.k, hz, many_eq c, c.k, c.i9, c.i10, c.r0, c.r1, c.r2, c.r3, c.r4, c.r5, c.r6, c.r7, c.r8, c.a0.k, c.a1.k, c.a2.k, c.a3.k, c.a4.k, size_eq c.a0, size_eq c.a1, size_eq c.a2, size_eq c.a3, size_eq c.a4, c.kb, c.lb, c.kl, c.ll, c.kw, c.lw_, c.kL, c.l, ts.k, ts.r1, ts.k1, ts.l1, ts.r2, ts.k2, ts.l2, ts.r3, ts.k3, ts.l3, ts.r4, ts.k4, ts.l4, ts.r5, ts.k5, ts.l5, ts.r6, ts.k6, ts.l6, ts.r7, ts.k7, ts.l7, ts.r8, ts.k8, ts.l8, ts.r9, ts.k9, ts.l9, ts.r10, ts.k10, ts.l10, ts.r11, ts.k11, ts.l11, ts.r12, ts.k12, ts.l12, ts.r13, ts.k13, ts.l13, ts.r14, ts.k14, ts.l14, ts.r15, ts.k15, ts.l15, ts.r16, ts.k16, ts.l16, ts.r17, ts.k17, ts.l17, ts.r18, ts.k18, ts.l18, ts.r19, ts.k19, ts.l19, ts.r20, ts.k20, ts.l20, ti, ho, hoF, k6, k2, k3, y0, y1, qF]
      exact nx0
theorem op_passed {z m : Nat} (x1 x2 x3 : Int32) : ∀ hC hT, Rx hC hT z m → rm z hC → Ok2 (F_X0_passed hC z x1 x2 x3 (z + 495)) (F_X8_passed hT m x1 x2 x3) (fun a b => VB z m a b ∧ FC z hC a.2 ∧ FT m hT b.2 ∧ Rx a.2 b.2 z m) := by
  intro hC hT ⟨o, x, τ, υ, e, el, lw, r⟩ g
  have hn4 := r.c.rg.n
  have cs := r.cs
  have c := r.c
  have hz := r.hz
  have ts0 := r.tn.s
  have tn := r.tn.wm 5 (iI 0)
  have ti := tn.i
  have ts := tn.s
  have hgi := c.rg.i
  have gr : 1 ≤ hc hC ∧ 6 ≤ hs hC := by have := g.1; have := g.2.1; omega
  obtain ⟨s, rfl, hs⟩ := i_ex x1
  obtain ⟨n, rfl, hn⟩ := i_ex x2
  have e1 := isStation_eq r.tn hn4 hs
  have e2 := within_eq hT (a := n) (b := 1) (c := 24) (by omega) (by omega) (by omega)
  have e3 := isIn_eq hC (a := n) (b := 1) (c := 24) (by omega) (by omega) (by omega)
  have n10F : (iI 1 = iI 0) = False := eq_false (by decide)
  have bad : ∀ k : Int32, k ≠ 0 → VB z m (k, nw hC 0 0 6) (iI 0, wI hT m 5 k) ∧ FC z hC (nw hC 0 0 6) ∧ FT m hT (wI hT m 5 k) ∧ Rx (nw hC 0 0 6) (wI hT m 5 k) z m := fun k hk => ⟨⟨by show k = _; rw [hI5], fun w => absurd w hk⟩, FC.nw0 r, FT.thr _ _ _ _, ⟨o, x, τ, υ, e, el, lw, (r.nw0 0 6).thr 5 (by omega) _⟩⟩
  by_cases q : 0 ≤ s ∧ s ≤ τ 0 - 1
  · rw [b2_t q] at e1
    by_cases q2 : 1 ≤ n ∧ n ≤ 24
    · rw [b2_t q2] at e2 e3
      obtain ⟨u, u', k1, k2, H⟩ := pass_run c cs hz tn (s := s) (n := n) (by omega) q2 x3
      rcases H with ⟨rfl, rfl⟩ | ⟨p, w, rfl, rfl⟩
      · simp (disch := omega) only [i_lit, i_neg, i_add, i_sub, i_mul, i_ofNat, i_div, i_le, i_lt, i_eq, i_ix, i_inb, i_max, i_min, e_rem, j_lit, j_i, Int.reduceToNat, Int.reduceAdd, Int.reduceSub, Int.reduceMul, Int.reduceNeg, Int.reduceLT, Int.reduceLE, Int.reduceEq, gd_t, gd_T, ↓bd_m, ↓lh_t, ↓on_m, ↓ec_m, ↓reduceIte, if_true, if_false, true_and, and_true, false_and, and_false, true_or, or_true, false_or, or_false, Bool.false_eq_true, b2i_0, b2i_1, bl_0, bl_1, bl_b2, not_true_eq_false, not_false_eq_true, F_X0_passed, F_X1_passed, B_X0_passed_18, F_X8_passed, B_X8_passed_30, B_X8_passed_33, cs.k, stationOf_t c cs hz q, e3, right_t, k1, g.2.2.1, g.2.2.2.1, ts0.k, e1, e2, hK_wI, hI5, k2]
        refine Ok2.some ⟨⟨?_, fun _ => ?_⟩, FC.out _ _ _ _, FT.thr _ _ _ _, ⟨o, x, τ, υ, e, el, lw, (r.out g _ _).thr 5 (by omega) _⟩⟩
        · rw [hI5]
        · show hJ (wJ _ _ _ _) _ _ = _
          rw [hJ_wJ, if_pos ⟨rfl, rfl⟩]
          rfl
      · simp (disch := omega) only [i_lit, i_neg, i_add, i_sub, i_mul, i_ofNat, i_div, i_le, i_lt, i_eq, i_ix, i_inb, i_max, i_min, e_rem, j_lit, j_i, Int.reduceToNat, Int.reduceAdd, Int.reduceSub, Int.reduceMul, Int.reduceNeg, Int.reduceLT, Int.reduceLE, Int.reduceEq, gd_t, gd_T, ↓bd_m, ↓lh_t, ↓on_m, ↓ec_m, ↓reduceIte, if_true, if_false, true_and, and_true, false_and, and_false, true_or, or_true, false_or, or_false, Bool.false_eq_true, b2i_0, b2i_1, bl_0, bl_1, bl_b2, not_true_eq_false, not_false_eq_true, F_X0_passed, F_X1_passed, B_X0_passed_18, F_X8_passed, B_X8_passed_30, B_X8_passed_33, cs.k, stationOf_t c cs hz q, e3, right_t, k1, hK_wJ, hL_wJ, g.2.2.1, g.2.2.2.1, ts0.k, e1, e2, hK_wI, hI5, k2, n10F]
        refine Ok2.some ⟨⟨?_, fun _ => ?_⟩, FC.frac1, ((FT.thr _ _ _ _).trans (tf_wJ (by omega))).trans (tf_wJ (by omega)), ⟨o, x, τ, υ, e, el, lw, ((r.thr 5 (by omega) _).frac p w).outk g.2.2.2.2 _ _⟩⟩
        · show _ = hI (wJ _ _ _ _) _ _
          rw [hI_wJ, hI_wJ, hI5]
        · show hJ (wJ _ _ _ _) _ _ = _
          rw [hJ_wJ, if_pos ⟨rfl, rfl⟩]
          rfl
    · rw [b2_f q2] at e2 e3
      simp (disch := omega) only [i_lit, i_neg, i_add, i_sub, i_mul, i_ofNat, i_div, i_le, i_lt, i_eq, i_ix, i_inb, i_max, i_min, e_rem, j_lit, j_i, Int.reduceToNat, Int.reduceAdd, Int.reduceSub, Int.reduceMul, Int.reduceNeg, Int.reduceLT, Int.reduceLE, Int.reduceEq, gd_t, gd_T, ↓bd_m, ↓lh_t, ↓on_m, ↓ec_m, ↓reduceIte, if_true, if_false, true_and, and_true, false_and, and_false, true_or, or_true, false_or, or_false, Bool.false_eq_true, b2i_0, b2i_1, bl_0, bl_1, bl_b2, not_true_eq_false, not_false_eq_true, F_X0_passed, F_X1_passed, B_X0_passed_26, F_X8_passed, B_X8_passed_30, B_X8_passed_33, cs.k, stationOf_t c cs hz q, e3, right_f gr, ts0.k, e1, e2, hK_wI, hI5, Nat.reduceEqDiff]
      exact Ok2.some (bad _ (by decide))
  · rw [b2_f q] at e1
    simp (disch := omega) only [i_lit, i_neg, i_add, i_sub, i_mul, i_ofNat, i_div, i_le, i_lt, i_eq, i_ix, i_inb, i_max, i_min, e_rem, j_lit, j_i, Int.reduceToNat, Int.reduceAdd, Int.reduceSub, Int.reduceMul, Int.reduceNeg, Int.reduceLT, Int.reduceLE, Int.reduceEq, gd_t, gd_T, ↓bd_m, ↓lh_t, ↓on_m, ↓ec_m, ↓reduceIte, if_true, if_false, true_and, and_true, false_and, and_false, true_or, or_true, false_or, or_false, Bool.false_eq_true, b2i_0, b2i_1, bl_0, bl_1, bl_b2, not_true_eq_false, not_false_eq_true, F_X0_passed, F_X1_passed, B_X0_passed_22, F_X8_passed, B_X8_passed_30, B_X8_passed_33, cs.k, stationOf_f c cs hz hs q gr, ts0.k, e1, hK_wI, hI5, Nat.reduceEqDiff]
    exact Ok2.some (bad _ (by decide))
