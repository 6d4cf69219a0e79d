/-! PURE HG: write -/
set_option maxRecDepth 100000
/-- a tray's number -/
def tv (h : AH) (row k : Nat) : Int64 := if hK h row = 102 then hJ h row k else (hI h row k).toInt64
def trK (κ : Nat) : Prop := κ = 101 ∨ κ = 103 ∨ κ = 100 ∨ κ = 102
theorem tsize_n {h : AH} {t : Nat} (k : hK h t = 7) (r0 : hR h t 0 = none) (g : 1 ≤ hc h ∧ 8 ≤ hs h) : F_X7_size h t = some (.inr (7, hn h, nz h 1 8)) := by
  simp (disch := omega) only [i_lit, i_neg, i_add, i_sub, i_mul, i_ofNat, i_div, i_le, i_lt, i_eq, i_ix, i_inb, i_max, i_min, e_rem, j_lit, j_i, Int.reduceToNat, Int.reduceAdd, Int.reduceSub, Int.reduceMul, Int.reduceNeg, Int.reduceLT, Int.reduceLE, Int.reduceEq, gd_t, gd_T, ↓bd_m, ↓lh_t, ↓on_m, ↓ec_m, ↓reduceIte, if_true, if_false, true_and, and_true, false_and, and_false, true_or, or_true, false_or, or_false, Bool.false_eq_true, b2i_0, b2i_1, bl_0, bl_1, bl_b2, not_true_eq_false, not_false_eq_true, F_X7_size, k, r0, g]
theorem tsize_s {h : AH} {t row : Nat} (k : hK h t = 7) (r0 : hR h t 0 = some row) (kr : trK (hK h row)) : F_X7_size h t = some (.inl (iI (hL h row), h)) := by
  rcases kr with kr | kr | kr | kr
  all_goals simp (disch := omega) only [i_lit, i_neg, i_add, i_sub, i_mul, i_ofNat, i_div, i_le, i_lt, i_eq, i_ix, i_inb, i_max, i_min, e_rem, j_lit, j_i, Int.reduceToNat, Int.reduceAdd, Int.reduceSub, Int.reduceMul, Int.reduceNeg, Int.reduceLT, Int.reduceLE, Int.reduceEq, gd_t, gd_T, ↓bd_m, ↓lh_t, ↓on_m, ↓ec_m, ↓reduceIte, if_true, if_false, true_and, and_true, false_and, and_false, true_or, or_true, false_or, or_false, Bool.false_eq_true, b2i_0, b2i_1, bl_0, bl_1, bl_b2, not_true_eq_false, not_false_eq_true, F_X7_size, k, r0, kr, Nat.reduceEqDiff]
theorem tat_s {h : AH} {t row : Nat} (k : hK h t = 7) (r0 : hR h t 0 = some row) (kr : trK (hK h row)) (hl : hL h row ≤ 28) {i : Nat} (hi : i < hL h row) : F_X7_at h t (iI i) = some (.inl (tv h row i, h)) := by
  unfold tv
  have b : (0 ≤ (i : Int) ∧ (i : Int) < ((hL h row : Nat) : Int)) = True := eq_true (by omega)
  rcases kr with kr | kr | kr | kr
  all_goals simp (disch := omega) only [i_lit, i_neg, i_add, i_sub, i_mul, i_ofNat, i_div, i_le, i_lt, i_eq, i_ix, i_inb, i_max, i_min, e_rem, j_lit, j_i, Int.reduceToNat, Int.reduceAdd, Int.reduceSub, Int.reduceMul, Int.reduceNeg, Int.reduceLT, Int.reduceLE, Int.reduceEq, gd_t, gd_T, ↓bd_m, ↓lh_t, ↓on_m, ↓ec_m, ↓reduceIte, if_true, if_false, true_and, and_true, false_and, and_false, true_or, or_true, false_or, or_false, Bool.false_eq_true, b2i_0, b2i_1, bl_0, bl_1, bl_b2, not_true_eq_false, not_false_eq_true, F_X7_at, k, r0, kr, Nat.reduceEqDiff, b, Int.toNat_natCast]
theorem tput_n {h : AH} {t : Nat} (k : hK h t = 7) (r0 : hR h t 0 = none) (g : 1 ≤ hc h ∧ 8 ≤ hs h) (x1 : Int32) (v : Int64) : F_X7_put h t x1 v = some (.inr (7, hn h, nz h 1 8)) := by
  simp (disch := omega) only [i_lit, i_neg, i_add, i_sub, i_mul, i_ofNat, i_div, i_le, i_lt, i_eq, i_ix, i_inb, i_max, i_min, e_rem, j_lit, j_i, Int.reduceToNat, Int.reduceAdd, Int.reduceSub, Int.reduceMul, Int.reduceNeg, Int.reduceLT, Int.reduceLE, Int.reduceEq, gd_t, gd_T, ↓bd_m, ↓lh_t, ↓on_m, ↓ec_m, ↓reduceIte, if_true, if_false, true_and, and_true, false_and, and_false, true_or, or_true, false_or, or_false, Bool.false_eq_true, b2i_0, b2i_1, bl_0, bl_1, bl_b2, not_true_eq_false, not_false_eq_true, F_X7_put, k, r0, g]
theorem tput_o {h : AH} {t row : Nat} (k : hK h t = 7) (r0 : hR h t 0 = some row) (kr : trK (hK h row)) (hl : hL h row ≤ 28) {i : Int} (h31 : i31 i) (hi : ¬ (0 ≤ i ∧ i < ((hL h row : Nat) : Int))) (g : 3 ≤ hc h ∧ 222 ≤ hs h) (v : Int64) : F_X7_put h t (iI i) v = some (.inr (6, hn h + 2, nz h 3 222)) := by
  have b : (0 ≤ i ∧ i < ((hL h row : Nat) : Int)) = False := eq_false hi
  rcases kr with kr | kr | kr | kr
  all_goals simp (disch := omega) only [i_lit, i_neg, i_add, i_sub, i_mul, i_ofNat, i_div, i_le, i_lt, i_eq, i_ix, i_inb, i_max, i_min, e_rem, j_lit, j_i, Int.reduceToNat, Int.reduceAdd, Int.reduceSub, Int.reduceMul, Int.reduceNeg, Int.reduceLT, Int.reduceLE, Int.reduceEq, gd_t, gd_T, ↓bd_m, ↓lh_t, ↓on_m, ↓ec_m, ↓reduceIte, if_true, if_false, true_and, and_true, false_and, and_false, true_or, or_true, false_or, or_false, Bool.false_eq_true, b2i_0, b2i_1, bl_0, bl_1, bl_b2, not_true_eq_false, not_false_eq_true, F_X7_put, k, r0, kr, Nat.reduceEqDiff, b, g]
theorem tput_s {h : AH} {t row : Nat} (k : hK h t = 7) (r0 : hR h t 0 = some row) (hl : hL h row ≤ 28) {i : Nat} (hi : i < hL h row) (v : Int64) :
    (hK h row = 101 → F_X7_put h t (iI i) v = some (.inl ((), wI h row i (Int8.toInt32 (Int32.toInt8 (Int8.toInt32 (Int32.toInt8 (Int64.toInt32 v)))))))) ∧
    (hK h row = 103 → F_X7_put h t (iI i) v = some (.inl ((), wI h row i (Int16.toInt32 (Int32.toInt16 (Int16.toInt32 (Int32.toInt16 (Int64.toInt32 v)))))))) ∧
    (hK h row = 100 → F_X7_put h t (iI i) v = some (.inl ((), wI h row i (Int64.toInt32 v)))) ∧
    (hK h row = 102 → F_X7_put h t (iI i) v = some (.inl ((), wJ h row i v))) := by
  have b : (0 ≤ (i : Int) ∧ (i : Int) < ((hL h row : Nat) : Int)) = True := eq_true (by omega)
  refine ⟨fun kr => ?_, fun kr => ?_, fun kr => ?_, fun kr => ?_⟩
  all_goals simp (disch := omega) only [i_lit, i_neg, i_add, i_sub, i_mul, i_ofNat, i_div, i_le, i_lt, i_eq, i_ix, i_inb, i_max, i_min, e_rem, j_lit, j_i, Int.reduceToNat, Int.reduceAdd, Int.reduceSub, Int.reduceMul, Int.reduceNeg, Int.reduceLT, Int.reduceLE, Int.reduceEq, gd_t, gd_T, ↓bd_m, ↓lh_t, ↓on_m, ↓ec_m, ↓reduceIte, if_true, if_false, true_and, and_true, false_and, and_false, true_or, or_true, false_or, or_false, Bool.false_eq_true, b2i_0, b2i_1, bl_0, bl_1, bl_b2, not_true_eq_false, not_false_eq_true, F_X7_put, B_X7_put_84, k, r0, kr, Nat.reduceEqDiff, b, Int.toNat_natCast]
/-! narrowing -/
theorem sh_int (v : Int64) (s : Int32) (n : Nat) (hn : n < 64) (e : ((s.toInt64 &&& 63).toBitVec.smod 64).toNat = n) : (lshr (lshl v s) s).toInt = ((v.toInt * 2 ^ n).bmod (2 ^ 64)) / 2 ^ n := by
  have h0 : (lshr (lshl v s) s).toInt = (lshr (lshl v s) s).toBitVec.toInt := rfl
  have h3 : (lshr (lshl v s) s).toBitVec = (v.toBitVec <<< n).sshiftRight n := by
    unfold lshr lshl
    rw [Int64.toBitVec_shiftRight, Int64.toBitVec_shiftLeft, BitVec.sshiftRight', e, BitVec.shiftLeft_eq', e]
  refine h0.trans ?_
  rw [h3, BitVec.toInt_sshiftRight, BitVec.toInt_shiftLeft, Int.shiftRight_eq_div_pow, Nat.shiftLeft_eq]
  have h4 : (((v.toBitVec.toNat * 2 ^ n : Nat)) : Int) = (v.toBitVec.toNat : Int) * 2 ^ n := by push_cast; rfl
  rw [h4]
  have h5 : (((2 ^ n : Nat)) : Int) = (2 : Int) ^ n := by push_cast; rfl
  have h1 : v.toInt = (v.toBitVec.toNat : Int).bmod (2 ^ 64) := by
    have h2 : v.toInt = v.toBitVec.toInt := rfl
    rw [h2]
    exact BitVec.toInt_eq_toNat_bmod _
  rw [h1, Int.bmod_mul_bmod]
  first | rfl | rw [h5]
theorem sh56 (v : Int64) : lshr (lshl v (iI 56)) (iI 56) = (Int8.toInt32 (Int32.toInt8 (Int8.toInt32 (Int32.toInt8 (Int64.toInt32 v))))).toInt64 := by
  apply Int64.toInt_inj.1
  rw [sh_int v (iI 56) 56 (by omega) (by decide), Int32.toInt_toInt64, Int8.toInt_toInt32, Int32.toInt_toInt8, Int8.toInt_toInt32, Int32.toInt_toInt8, Int64.toInt_toInt32]
  have := Int64.le_toInt v
  have := Int64.toInt_lt v
  generalize v.toInt = w at *
  simp only [Int.bmod_def]
  omega
theorem sh48 (v : Int64) : lshr (lshl v (iI 48)) (iI 48) = (Int16.toInt32 (Int32.toInt16 (Int16.toInt32 (Int32.toInt16 (Int64.toInt32 v))))).toInt64 := by
  apply Int64.toInt_inj.1
  rw [sh_int v (iI 48) 48 (by omega) (by decide), Int32.toInt_toInt64, Int16.toInt_toInt32, Int32.toInt_toInt16, Int16.toInt_toInt32, Int32.toInt_toInt16, Int64.toInt_toInt32]
  have := Int64.le_toInt v
  have := Int64.toInt_lt v
  generalize v.toInt = w at *
  simp only [Int.bmod_def]
  omega
theorem sh32 (v : Int64) : lshr (lshl v (iI 32)) (iI 32) = (Int64.toInt32 v).toInt64 := by
  apply Int64.toInt_inj.1
  rw [sh_int v (iI 32) 32 (by omega) (by decide), Int32.toInt_toInt64, Int64.toInt_toInt32]
  have := Int64.le_toInt v
  have := Int64.toInt_lt v
  generalize v.toInt = w at *
  simp only [Int.bmod_def]
  omega
theorem sh0 (v : Int64) : lshr (lshl v (iI 0)) (iI 0) = v := by
  apply Int64.toInt_inj.1
  rw [sh_int v (iI 0) 0 (by omega) (by decide)]
  have := Int64.le_toInt v
  have := Int64.toInt_lt v
  generalize v.toInt = w at *
  simp only [Int.bmod_def]
  omega
theorem RL.badJ2 {o : Nat → Nat} {hC hT : AH} {z m x : Nat} {τ : Nat → Int} {υ : Nat → Int64} {e : Nat → Nat} {el : Nat → Nat → Nat} {lw : Nat} (r : RL o hC hT z m x τ υ e el lw) (k : Int32) (hk : k ≠ 0) {h' : AH} (F : FC z hC h') (r' : RL o h' hT z m x τ υ e el lw) : VJ z m (k, h') (jI 0, wI (wI hT m 5 (iI 0)) m 5 k) ∧ FC z hC h' ∧ FT m hT (wI (wI hT m 5 (iI 0)) m 5 k) ∧ Rx h' (wI (wI hT m 5 (iI 0)) m 5 k) z m :=
  ⟨⟨by show k = _; rw [hI5], fun w => absurd w hk⟩, F, (FT.thr _ _ _ _).trans (FT.thr _ _ _ _), ⟨o, x, τ, υ, e, el, lw, (r'.thr 5 (by omega) _).thr 5 (by omega) _⟩⟩
/-- a number of a tray is written -/
theorem tray_wr {o : Nat → Nat} {hC hT : AH} {z m x : Nat} {τ : Nat → Int} {υ : Nat → Int64} {e : Nat → Nat} {el : Nat → Nat → Nat} {lw : Nat} (r : RL o hC hT z m x τ υ e el lw) (g : rm z hC) {t : Nat} (ht : t < 4) {so : Int} {n row k : Nat} (hso : 0 ≤ so ∧ so ≤ 3) (p1 : hI hT (m + 18) t = iI so) (p3 : hI hT (m + 19) t = iI n) (p4 : n ≤ 28) (p5 : hR hC (z + 440 + t) 0 = some row) (p6 : o row = 70 + t) (p7 : hL hC row = n) (p8 : (so = 0 ∧ hK hC row = 101 ∧ ∀ k, k < n → hJ hT (m + 20) (28 * t + k) = (hI hC row k).toInt64) ∨ (so = 1 ∧ hK hC row = 103 ∧ ∀ k, k < n → hJ hT (m + 20) (28 * t + k) = (hI hC row k).toInt64) ∨ (so = 2 ∧ hK hC row = 100 ∧ ∀ k, k < n → hJ hT (m + 20) (28 * t + k) = (hI hC row k).toInt64) ∨ (so = 3 ∧ hK hC row = 102 ∧ ∀ k, k < n → hJ hT (m + 20) (28 * t + k) = hJ hC row k)) (hk : k < n) {hC' : AH} {V : Int64}
    (c1 : (hK hC row ≠ 102 ∧ ∃ v : Int32, hC' = wI hC row k v ∧ v.toInt64 = V) ∨ (hK hC row = 102 ∧ hC' = wJ hC row k V)) :
    VJ z m (iI 0, wJ hC' (z + 495) 0 V) (V, wJ (wI hT m 5 (iI 0)) (m + 20) (28 * t + k) V) ∧ FC z hC (wJ hC' (z + 495) 0 V) ∧ FT m hT (wJ (wI hT m 5 (iI 0)) (m + 20) (28 * t + k) V) ∧ Rx (wJ hC' (z + 495) 0 V) (wJ (wI hT m 5 (iI 0)) (m + 20) (28 * t + k) V) z m := by
  have hnz := r.hnz
  have hm := r.m
  have kr : hK hC row = 101 ∨ hK hC row = 103 ∨ hK hC row = 100 ∨ hK hC row = 102 := by rcases p8 with q | q | q | q <;> omega
  have nrow : ∀ a, (a = z ∨ (z + 269 ≤ a ∧ a ≤ z + 495)) → a ≠ row := fun a q u => by have := r.ow a q; rw [u] at this; omega
  have n495 := nrow (z + 495) (by omega)
  have K1 : hn hC' = hn hC ∧ hc hC' = hc hC ∧ hs hC' = hs hC ∧ hK hC' = hK hC ∧ hL hC' = hL hC ∧ hR hC' = hR hC ∧ ∀ a, a ≠ row → sm hC hC' a := by
    rcases c1 with ⟨_, v, rfl, _⟩ | ⟨_, rfl⟩
    · exact ⟨rfl, rfl, rfl, rfl, rfl, rfl, fun a ha => sm_wI ha⟩
    · exact ⟨rfl, rfl, rfl, rfl, rfl, rfl, fun a ha => sm_wJ ha⟩
  obtain ⟨kn, kc, ks, kK, kL, kR, sx⟩ := K1
  have lr : row < hn hC := Nat.lt_of_not_le fun q => by have := (r.ho row q).2; omega
  have T : ∀ a, ¬ (a = m + 20) → hI (wJ (wI hT m 5 (iI 0)) (m + 20) (28 * t + k) V) a = hI (wI hT m 5 (iI 0)) a ∧ hJ (wJ (wI hT m 5 (iI 0)) (m + 20) (28 * t + k) V) a = hJ hT a := fun a q => ⟨rfl, (sm_wJ q).2.2.2.1⟩
  have m5 : ∀ j, j ≠ 5 → hI (wI hT m 5 (iI 0)) m j = hI hT m j := fun j hj => by rw [hI_wI, if_neg (by omega)]
  have r' : RL o hC' (wJ (wI hT m 5 (iI 0)) (m + 20) (28 * t + k) V) z m x τ υ e el lw := by
    refine r.tri ht (row := row) p6 (fun a _ q1 q2 => sx a q2) (fun a _ => by rw [kK]) (by omega) (fun a q => by rw [kK]; exact r.ho a (by omega)) (fun a q => by rw [kK, (r.ho a q).1]; omega) (fun _ _ => rfl) ⟨by unfold imK; omega, by omega⟩ ((r.tn.wm 5 (iI 0)).s.tf (tf_wJ (P := fun a => a = m + 20) rfl)) (fun a q => ?_) (fun j hj => ?_) (fun j hj => ?_) (fun j l hj hl => ?_) ?_ ?_ ?_ ?_ ?_ ?_
    · have := T a (by omega)
      rw [this.1, this.2]
      exact ⟨(sm_wI (by omega)).2.2.1, rfl⟩
    · show hI (wI hT m 5 (iI 0)) (m + 18) j = _
      rw [hI_wI, if_neg (by omega)]
    · show hI (wI hT m 5 (iI 0)) (m + 19) j = _
      rw [hI_wI, if_neg (by omega)]
    · rw [hJ_wJ, if_neg (by omega)]; rfl
    · exact m5 9 (by omega)
    · exact m5 18 (by omega)
    · exact m5 19 (by omega)
    · rw [(T m (by omega)).2]
    · rw [(T m (by omega)).2]
    · have hI18 : hI (wJ (wI hT m 5 (iI 0)) (m + 20) (28 * t + k) V) (m + 18) t = iI so := by
        show hI (wI hT m 5 (iI 0)) (m + 18) t = _
        rw [hI_wI, if_neg (by omega)]; exact p1
      have hI19 : hI (wJ (wI hT m 5 (iI 0)) (m + 20) (28 * t + k) V) (m + 19) t = iI n := by
        show hI (wI hT m 5 (iI 0)) (m + 19) t = _
        rw [hI_wI, if_neg (by omega)]; exact p3
      have other : ∀ l, l < n → l ≠ k → hJ (wJ (wI hT m 5 (iI 0)) (m + 20) (28 * t + k) V) (m + 20) (28 * t + l) = hJ hT (m + 20) (28 * t + l) := fun l _ hl => by rw [hJ_wJ, if_neg (by omega)]; rfl
      have own : hJ (wJ (wI hT m 5 (iI 0)) (m + 20) (28 * t + k) V) (m + 20) (28 * t + k) = V := by rw [hJ_wJ, if_pos ⟨rfl, rfl⟩]
      refine Or.inr ⟨so, n, row, hI18, hso, hI19, p4, by rw [kR]; exact p5, p6, by rw [kL]; exact p7, ?_⟩
      rw [kK]
      rcases c1 with ⟨c0, v, rfl, hv⟩ | ⟨c0, rfl⟩
      · have f : (∀ l, l < n → hJ hT (m + 20) (28 * t + l) = (hI hC row l).toInt64) → ∀ l, l < n → hJ (wJ (wI hT m 5 (iI 0)) (m + 20) (28 * t + k) V) (m + 20) (28 * t + l) = (hI (wI hC row k v) row l).toInt64 := fun q l hl => by
          by_cases u : l = k
          · subst u; rw [own, hI_wI, if_pos ⟨rfl, rfl⟩, hv]
          · rw [other l hl u, hI_wI, if_neg (by omega)]; exact q l hl
        rcases p8 with ⟨q1, q2, q3⟩ | ⟨q1, q2, q3⟩ | ⟨q1, q2, q3⟩ | ⟨q1, q2, q3⟩
        · exact Or.inl ⟨q1, q2, f q3⟩
        · exact Or.inr (Or.inl ⟨q1, q2, f q3⟩)
        · exact Or.inr (Or.inr (Or.inl ⟨q1, q2, f q3⟩))
        · omega
      · rcases p8 with ⟨q1, q2, q3⟩ | ⟨q1, q2, q3⟩ | ⟨q1, q2, q3⟩ | ⟨q1, q2, q3⟩
        · omega
        · omega
        · omega
        · refine Or.inr (Or.inr (Or.inr ⟨q1, q2, fun l hl => ?_⟩))
          by_cases u : l = k
          · subst u; rw [own, hJ_wJ, if_pos ⟨rfl, rfl⟩]
          · rw [other l hl u, hJ_wJ, if_neg (by omega)]; exact q3 l hl
  refine ⟨⟨?_, fun _ => ?_⟩, ⟨⟨by rw [hn_wJ, kn]; omega, by rw [hc_wJ, kc]; omega, by rw [hs_wJ, ks]; omega⟩, fun a q1 q2 => (sx a (nrow a (by omega))).trans (sm_wJ (by omega)), by rw [hK_wJ, kK], by rw [hL_wJ, kL]⟩, (FT.thr _ _ _ _).trans (tf_wJ (by omega)), ⟨o, x, τ, υ, e, el, lw, r'.outk (by rw [kK]; exact g.2.2.2.2) _ _⟩⟩
  · show _ = hI (wI hT m 5 (iI 0)) m 5
    rw [hI5]
  · rw [hJ_wJ, if_pos ⟨rfl, rfl⟩]
theorem op_write {z m : Nat} (x1 x2 : Int32) (v : Int64) : ∀ hC hT, Rx hC hT z m → rm z hC → Ok2 (F_X0_write hC z x1 x2 v (z + 495)) (F_X8_write hT m x1 x2 v) (fun a b => VJ z m a b ∧ FC z hC a.2 ∧ FT m hT b.2 ∧ Rx a.2 b.2 z m) := by
  intro hC hT ⟨o, x, τ, υ, e, el, lw, r⟩ g
  have hn4 := r.c.rg.n
  have cs := r.cs
  have c := r.c
  have hz := r.hz
  have ts0 := r.tn.s
  have tn := r.tn.wm 5 (iI 0)
  have ti := tn.i
  have ts := tn.s
  have hgi := c.rg.i
  have gr : 1 ≤ hc hC ∧ 6 ≤ hs hC := by have := g.1; have := g.2.1; omega
  obtain ⟨t, rfl, ht⟩ := i_ex x1
  obtain ⟨k, rfl, hk⟩ := i_ex x2
  have hg1 := g.1
  have hg2 := g.2.1
  have hnz := r.hnz
  have e1 := isTray_eq (wI hT m 5 (iI 0)) ht
  have j0 : (iI 0).toInt64 = jI 0 := by decide
  by_cases q1 : 0 ≤ t ∧ t ≤ 3
  · rw [b2_t q1] at e1
    obtain ⟨t, rfl⟩ := Int.eq_ofNat_of_zero_le q1.1
    have tO := trayOf_t cs (t := t) (by omega)
    have w7 := (cs.wt t (by omega)).2
    have i18 : hI (wI hT m 5 (iI 0)) (m + 18) t = hI hT (m + 18) t := by rw [hI_wI, if_neg (by omega)]
    have i19 : hI (wI hT m 5 (iI 0)) (m + 19) t = hI hT (m + 19) t := by rw [hI_wI, if_neg (by omega)]
    rcases r.tr t (by omega) with ⟨p1, p2⟩ | ⟨so, n, row, p1, p2, p3, p4, p5, p6, p7, p8⟩
    · rw [p1] at i18
      have g1 : 1 ≤ hc hC ∧ 8 ≤ hs hC := by omega
      have g2 : 1 ≤ hc (nz hC 1 8) ∧ 6 ≤ hs (nz hC 1 8) := by rw [hc_nz, hs_nz]; omega
      simp (disch := omega) only [i_lit, i_neg, i_add, i_sub, i_mul, i_ofNat, i_div, i_le, i_lt, i_eq, i_ix, i_inb, i_max, i_min, e_rem, j_lit, j_i, Int.reduceToNat, Int.reduceAdd, Int.reduceSub, Int.reduceMul, Int.reduceNeg, Int.reduceLT, Int.reduceLE, Int.reduceEq, gd_t, gd_T, ↓bd_m, ↓lh_t, ↓on_m, ↓ec_m, ↓reduceIte, if_true, if_false, true_and, and_true, false_and, and_false, true_or, or_true, false_or, or_false, Bool.false_eq_true, b2i_0, b2i_1, bl_0, bl_1, bl_b2, not_true_eq_false, not_false_eq_true, F_X0_write, F_X1_write, B_X1_write_21, B_X0_write_18, F_X8_write, B_X8_write_5, cs.k, tO, w7, tput_n w7 p2 g1, g2, ts0.k, ts0.r1, ts0.k1, ts0.l1, ts0.r2, ts0.k2, ts0.l2, ts0.r3, ts0.k3, ts0.l3, ts0.r4, ts0.k4, ts0.l4, ts0.r5, ts0.k5, ts0.l5, ts0.r6, ts0.k6, ts0.l6, ts0.r7, ts0.k7, ts0.l7, ts0.r8, ts0.k8, ts0.l8, ts0.r9, ts0.k9, ts0.l9, ts0.r10, ts0.k10, ts0.l10, ts0.r11, ts0.k11, ts0.l11, ts0.r12, ts0.k12, ts0.l12, ts0.r13, ts0.k13, ts0.l13, ts0.r14, ts0.k14, ts0.l14, ts0.r15, ts0.k15, ts0.l15, ts0.r16, ts0.k16, ts0.l16, ts0.r17, ts0.k17, ts0.l17, ts0.r18, ts0.k18, ts0.l18, ts0.r19, ts0.k19, ts0.l19, ts0.r20, ts0.k20, ts0.l20, e1, hK_wI, hL_wI, hR_wI, i18, fails_eq ts.k, j0, Nat.reduceEqDiff, Int.toNat_natCast]
      exact Ok2.some (r.badJ2 _ (by decide) (FCnz r (by omega) (by omega)) ((r.nz 1 8).nw0 0 6))
    · rw [p1] at i18
      rw [p3] at i19
      have kr : trK (hK hC row) := by unfold trK; rcases p8 with q | q | q | q <;> omega
      have ew := within_eq (wI hT m 5 (iI 0)) (a := k) (b := 0) (c := (n : Int) - 1) (by omega) (by omega) (by omega)
      have soF : (so = -1) = False := eq_false (by omega)
      by_cases q2 : 0 ≤ k ∧ k ≤ (n : Int) - 1
      · rw [b2_t q2] at ew
        obtain ⟨k, rfl⟩ := Int.eq_ofNat_of_zero_le q2.1
        have kn : k < hL hC row := by omega
        have y : (28 * (t : Int) + (k : Int)).toNat = 28 * t + k := by omega
        obtain ⟨f1, f2, f3, f4⟩ := tput_s w7 p5 (by omega) kn v
        have s0 : (iI 8 <<< (iI 0 &&& iI 31)) = iI 8 := by decide
        have s1 : (iI 8 <<< (iI 1 &&& iI 31)) = iI 16 := by decide
        have s2 : (iI 8 <<< (iI 2 &&& iI 31)) = iI 32 := by decide
        have s3 : (iI 8 <<< (iI 3 &&& iI 31)) = iI 64 := by decide
        have rb : ∀ V : Int64, hJ (wJ (wI hT m 5 (iI 0)) (m + 20) (28 * t + k) V) (m + 20) (28 * t + k) = V := fun V => by rw [hJ_wJ, if_pos ⟨rfl, rfl⟩]
        have nt : z + 440 + t ≠ row := fun u => by have := r.ow (z + 440 + t) (by omega); rw [u] at this; omega
        have n4 : z + 495 ≠ row := fun u => by have := r.ow (z + 495) (by omega); rw [u] at this; omega
        have at1 : ∀ w : Int32, hK hC row ≠ 102 → F_X7_at (wI hC row k w) (z + 440 + t) (iI k) = some (.inl (w.toInt64, wI hC row k w)) := fun w hw => by
          have := tat_s (h := wI hC row k w) (t := z + 440 + t) (row := row) (i := k) w7 p5 kr (by show hL hC row ≤ 28; omega) kn
          rw [this]
          unfold tv
          rw [hK_wI, if_neg hw, hI_wI, if_pos ⟨rfl, rfl⟩]
        rcases p8 with ⟨rfl, a2, a3⟩ | ⟨rfl, a2, a3⟩ | ⟨rfl, a2, a3⟩ | ⟨rfl, a2, a3⟩
        · have F := tray_wr r g (t := t) (by omega) p2 p1 p3 p4 p5 p6 p7 (Or.inl ⟨rfl, a2, a3⟩) (k := k) (by omega) (Or.inl ⟨by omega, _, rfl, rfl⟩) (hC' := wI hC row k (Int8.toInt32 (Int32.toInt8 (Int8.toInt32 (Int32.toInt8 (Int64.toInt32 v))))))
          simp (disch := omega) only [i_lit, i_neg, i_add, i_sub, i_mul, i_ofNat, i_div, i_le, i_lt, i_eq, i_ix, i_inb, i_max, i_min, e_rem, j_lit, j_i, Int.reduceToNat, Int.reduceAdd, Int.reduceSub, Int.reduceMul, Int.reduceNeg, Int.reduceLT, Int.reduceLE, Int.reduceEq, gd_t, gd_T, ↓bd_m, ↓lh_t, ↓on_m, ↓ec_m, ↓reduceIte, if_true, if_false, true_and, and_true, false_and, and_false, true_or, or_true, false_or, or_false, Bool.false_eq_true, b2i_0, b2i_1, bl_0, bl_1, bl_b2, not_true_eq_false, not_false_eq_true, F_X0_write, F_X1_write, F_X8_write, B_X8_write_5, B_X8_write_93, cs.k, tO, w7, f1 a2, at1 _ (show hK hC row ≠ 102 by omega), hK_wI, hL_wI, hR_wI, hK_wJ, hL_wJ, hR_wJ, g.2.2.1, g.2.2.2.1, ts0.k, ts0.r1, ts0.k1, ts0.l1, ts0.r2, ts0.k2, ts0.l2, ts0.r3, ts0.k3, ts0.l3, ts0.r4, ts0.k4, ts0.l4, ts0.r5, ts0.k5, ts0.l5, ts0.r6, ts0.k6, ts0.l6, ts0.r7, ts0.k7, ts0.l7, ts0.r8, ts0.k8, ts0.l8, ts0.r9, ts0.k9, ts0.l9, ts0.r10, ts0.k10, ts0.l10, ts0.r11, ts0.k11, ts0.l11, ts0.r12, ts0.k12, ts0.l12, ts0.r13, ts0.k13, ts0.l13, ts0.r14, ts0.k14, ts0.l14, ts0.r15, ts0.k15, ts0.l15, ts0.r16, ts0.k16, ts0.l16, ts0.r17, ts0.k17, ts0.l17, ts0.r18, ts0.k18, ts0.l18, ts0.r19, ts0.k19, ts0.l19, ts0.r20, ts0.k20, ts0.l20, e1, i18, i19, soF, ew, y, s0, sh56, rb, Int.toNat_natCast]
          exact Ok2.some F
        · have F := tray_wr r g (t := t) (by omega) p2 p1 p3 p4 p5 p6 p7 (Or.inr (Or.inl ⟨rfl, a2, a3⟩)) (k := k) (by omega) (Or.inl ⟨by omega, _, rfl, rfl⟩) (hC' := wI hC row k (Int16.toInt32 (Int32.toInt16 (Int16.toInt32 (Int32.toInt16 (Int64.toInt32 v))))))
          simp (disch := omega) only [i_lit, i_neg, i_add, i_sub, i_mul, i_ofNat, i_div, i_le, i_lt, i_eq, i_ix, i_inb, i_max, i_min, e_rem, j_lit, j_i, Int.reduceToNat, Int.reduceAdd, Int.reduceSub, Int.reduceMul, Int.reduceNeg, Int.reduceLT, Int.reduceLE, Int.reduceEq, gd_t, gd_T, ↓bd_m, ↓lh_t, ↓on_m, ↓ec_m, ↓reduceIte, if_true, if_false, true_and, and_true, false_and, and_false, true_or, or_true, false_or, or_false, Bool.false_eq_true, b2i_0, b2i_1, bl_0, bl_1, bl_b2, not_true_eq_false, not_false_eq_true, F_X0_write, F_X1_write, F_X8_write, B_X8_write_5, B_X8_write_93, cs.k, tO, w7, f2 a2, at1 _ (show hK hC row ≠ 102 by omega), hK_wI, hL_wI, hR_wI, hK_wJ, hL_wJ, hR_wJ, g.2.2.1, g.2.2.2.1, ts0.k, ts0.r1, ts0.k1, ts0.l1, ts0.r2, ts0.k2, ts0.l2, ts0.r3, ts0.k3, ts0.l3, ts0.r4, ts0.k4, ts0.l4, ts0.r5, ts0.k5, ts0.l5, ts0.r6, ts0.k6, ts0.l6, ts0.r7, ts0.k7, ts0.l7, ts0.r8, ts0.k8, ts0.l8, ts0.r9, ts0.k9, ts0.l9, ts0.r10, ts0.k10, ts0.l10, ts0.r11, ts0.k11, ts0.l11, ts0.r12, ts0.k12, ts0.l12, ts0.r13, ts0.k13, ts0.l13, ts0.r14, ts0.k14, ts0.l14, ts0.r15, ts0.k15, ts0.l15, ts0.r16, ts0.k16, ts0.l16, ts0.r17, ts0.k17, ts0.l17, ts0.r18, ts0.k18, ts0.l18, ts0.r19, ts0.k19, ts0.l19, ts0.r20, ts0.k20, ts0.l20, e1, i18, i19, soF, ew, y, s1, sh48, rb, Int.toNat_natCast]
          exact Ok2.some F
        · have F := tray_wr r g (t := t) (by omega) p2 p1 p3 p4 p5 p6 p7 (Or.inr (Or.inr (Or.inl ⟨rfl, a2, a3⟩))) (k := k) (by omega) (Or.inl ⟨by omega, _, rfl, rfl⟩) (hC' := wI hC row k (Int64.toInt32 v))
          simp (disch := omega) only [i_lit, i_neg, i_add, i_sub, i_mul, i_ofNat, i_div, i_le, i_lt, i_eq, i_ix, i_inb, i_max, i_min, e_rem, j_lit, j_i, Int.reduceToNat, Int.reduceAdd, Int.reduceSub, Int.reduceMul, Int.reduceNeg, Int.reduceLT, Int.reduceLE, Int.reduceEq, gd_t, gd_T, ↓bd_m, ↓lh_t, ↓on_m, ↓ec_m, ↓reduceIte, if_true, if_false, true_and, and_true, false_and, and_false, true_or, or_true, false_or, or_false, Bool.false_eq_true, b2i_0, b2i_1, bl_0, bl_1, bl_b2, not_true_eq_false, not_false_eq_true, F_X0_write, F_X1_write, F_X8_write, B_X8_write_5, B_X8_write_93, cs.k, tO, w7, f3 a2, at1 _ (show hK hC row ≠ 102 by omega), hK_wI, hL_wI, hR_wI, hK_wJ, hL_wJ, hR_wJ, g.2.2.1, g.2.2.2.1, ts0.k, ts0.r1, ts0.k1, ts0.l1, ts0.r2, ts0.k2, ts0.l2, ts0.r3, ts0.k3, ts0.l3, ts0.r4, ts0.k4, ts0.l4, ts0.r5, ts0.k5, ts0.l5, ts0.r6, ts0.k6, ts0.l6, ts0.r7, ts0.k7, ts0.l7, ts0.r8, ts0.k8, ts0.l8, ts0.r9, ts0.k9, ts0.l9, ts0.r10, ts0.k10, ts0.l10, ts0.r11, ts0.k11, ts0.l11, ts0.r12, ts0.k12, ts0.l12, ts0.r13, ts0.k13, ts0.l13, ts0.r14, ts0.k14, ts0.l14, ts0.r15, ts0.k15, ts0.l15, ts0.r16, ts0.k16, ts0.l16, ts0.r17, ts0.k17, ts0.l17, ts0.r18, ts0.k18, ts0.l18, ts0.r19, ts0.k19, ts0.l19, ts0.r20, ts0.k20, ts0.l20, e1, i18, i19, soF, ew, y, s2, sh32, rb, Int.toNat_natCast]
          exact Ok2.some F
        · have F := tray_wr r g (t := t) (by omega) p2 p1 p3 p4 p5 p6 p7 (Or.inr (Or.inr (Or.inr ⟨rfl, a2, a3⟩))) (k := k) (by omega) (Or.inr ⟨a2, rfl⟩) (hC' := wJ hC row k v)
          have at2 : F_X7_at (wJ hC row k v) (z + 440 + t) (iI k) = some (.inl (v, wJ hC row k v)) := by
            have := tat_s (h := wJ hC row k v) (t := z + 440 + t) (row := row) (i := k) w7 p5 kr (by show hL hC row ≤ 28; omega) kn
            rw [this]
            unfold tv
            rw [hK_wJ, if_pos a2, hJ_wJ, if_pos ⟨rfl, rfl⟩]
          simp (disch := omega) only [i_lit, i_neg, i_add, i_sub, i_mul, i_ofNat, i_div, i_le, i_lt, i_eq, i_ix, i_inb, i_max, i_min, e_rem, j_lit, j_i, Int.reduceToNat, Int.reduceAdd, Int.reduceSub, Int.reduceMul, Int.reduceNeg, Int.reduceLT, Int.reduceLE, Int.reduceEq, gd_t, gd_T, ↓bd_m, ↓lh_t, ↓on_m, ↓ec_m, ↓reduceIte, if_true, if_false, true_and, and_true, false_and, and_false, true_or, or_true, false_or, or_false, Bool.false_eq_true, b2i_0, b2i_1, bl_0, bl_1, bl_b2, not_true_eq_false, not_false_eq_true, F_X0_write, F_X1_write, F_X8_write, B_X8_write_5, B_X8_write_93, cs.k, tO, w7, f4 a2, at2, hK_wI, hL_wI, hR_wI, hK_wJ, hL_wJ, hR_wJ, g.2.2.1, g.2.2.2.1, ts0.k, ts0.r1, ts0.k1, ts0.l1, ts0.r2, ts0.k2, ts0.l2, ts0.r3, ts0.k3, ts0.l3, ts0.r4, ts0.k4, ts0.l4, ts0.r5, ts0.k5, ts0.l5, ts0.r6, ts0.k6, ts0.l6, ts0.r7, ts0.k7, ts0.l7, ts0.r8, ts0.k8, ts0.l8, ts0.r9, ts0.k9, ts0.l9, ts0.r10, ts0.k10, ts0.l10, ts0.r11, ts0.k11, ts0.l11, ts0.r12, ts0.k12, ts0.l12, ts0.r13, ts0.k13, ts0.l13, ts0.r14, ts0.k14, ts0.l14, ts0.r15, ts0.k15, ts0.l15, ts0.r16, ts0.k16, ts0.l16, ts0.r17, ts0.k17, ts0.l17, ts0.r18, ts0.k18, ts0.l18, ts0.r19, ts0.k19, ts0.l19, ts0.r20, ts0.k20, ts0.l20, e1, i18, i19, soF, ew, y, s3, sh0, rb, Int.toNat_natCast]
          exact Ok2.some F
      · rw [b2_f q2] at ew
        have g1 : 3 ≤ hc hC ∧ 222 ≤ hs hC := by omega
        have g2 : 1 ≤ hc (nz hC 3 222) ∧ 6 ≤ hs (nz hC 3 222) := by rw [hc_nz, hs_nz]; omega
        simp (disch := omega) only [i_lit, i_neg, i_add, i_sub, i_mul, i_ofNat, i_div, i_le, i_lt, i_eq, i_ix, i_inb, i_max, i_min, e_rem, j_lit, j_i, Int.reduceToNat, Int.reduceAdd, Int.reduceSub, Int.reduceMul, Int.reduceNeg, Int.reduceLT, Int.reduceLE, Int.reduceEq, gd_t, gd_T, ↓bd_m, ↓lh_t, ↓on_m, ↓ec_m, ↓reduceIte, if_true, if_false, true_and, and_true, false_and, and_false, true_or, or_true, false_or, or_false, Bool.false_eq_true, b2i_0, b2i_1, bl_0, bl_1, bl_b2, not_true_eq_false, not_false_eq_true, F_X0_write, F_X1_write, B_X1_write_31, B_X0_write_22, F_X8_write, B_X8_write_5, cs.k, tO, w7, tput_o w7 p5 kr (show hL hC row ≤ 28 by omega) hk (show ¬ (0 ≤ k ∧ k < ((hL hC row : Nat) : Int)) by omega) g1, g2, ts0.k, ts0.r1, ts0.k1, ts0.l1, ts0.r2, ts0.k2, ts0.l2, ts0.r3, ts0.k3, ts0.l3, ts0.r4, ts0.k4, ts0.l4, ts0.r5, ts0.k5, ts0.l5, ts0.r6, ts0.k6, ts0.l6, ts0.r7, ts0.k7, ts0.l7, ts0.r8, ts0.k8, ts0.l8, ts0.r9, ts0.k9, ts0.l9, ts0.r10, ts0.k10, ts0.l10, ts0.r11, ts0.k11, ts0.l11, ts0.r12, ts0.k12, ts0.l12, ts0.r13, ts0.k13, ts0.l13, ts0.r14, ts0.k14, ts0.l14, ts0.r15, ts0.k15, ts0.l15, ts0.r16, ts0.k16, ts0.l16, ts0.r17, ts0.k17, ts0.l17, ts0.r18, ts0.k18, ts0.l18, ts0.r19, ts0.k19, ts0.l19, ts0.r20, ts0.k20, ts0.l20, e1, hK_wI, hL_wI, hR_wI, i18, i19, soF, ew, fails_eq ts.k, j0, Nat.reduceEqDiff, Int.toNat_natCast]
        exact Ok2.some (r.badJ2 _ (by decide) (FCnz r (by omega) (by omega)) ((r.nz 3 222).nw0 0 6))
  · rw [b2_f q1] at e1
    simp (disch := omega) only [i_lit, i_neg, i_add, i_sub, i_mul, i_ofNat, i_div, i_le, i_lt, i_eq, i_ix, i_inb, i_max, i_min, e_rem, j_lit, j_i, Int.reduceToNat, Int.reduceAdd, Int.reduceSub, Int.reduceMul, Int.reduceNeg, Int.reduceLT, Int.reduceLE, Int.reduceEq, gd_t, gd_T, ↓bd_m, ↓lh_t, ↓on_m, ↓ec_m, ↓reduceIte, if_true, if_false, true_and, and_true, false_and, and_false, true_or, or_true, false_or, or_false, Bool.false_eq_true, b2i_0, b2i_1, bl_0, bl_1, bl_b2, not_true_eq_false, not_false_eq_true, F_X0_write, F_X1_write, B_X0_write_14, F_X8_write, B_X8_write_5, cs.k, trayOf_f hC z gr ht q1, ts0.k, e1, hK_wI, fails_eq ts.k, j0, Nat.reduceEqDiff]
    exact Ok2.some (r.badJ2 _ (by decide) (FC.nw0 r) (r.nw0 0 6))
