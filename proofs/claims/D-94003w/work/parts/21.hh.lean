/-! PURE HH: story -/
set_option maxRecDepth 100000
theorem j_ex (v : Int64) : v = jI v.toInt ∧ (-9223372036854775808 ≤ v.toInt ∧ v.toInt < 9223372036854775808) := ⟨(Int64.ofInt_toInt v).symm, Int64.le_toInt v, Int64.toInt_lt v⟩
theorem j_i32 {v : Int} (h : i31 v) : Int64.toInt32 (jI v) = iI v := by
  apply Int32.toInt_inj.1
  rw [Int64.toInt_toInt32, j_toInt (by omega), i_toInt h, Int.bmod_eq_of_le (by omega) (by omega)]
/-- a tray with its numbers, the component's -/
def TY (h : AH) (z t row n : Nat) (N : Nat → Int) : Prop := CS h z ∧ t < 4 ∧ hR h (z + 440 + t) 0 = some row ∧ trK (hK h row) ∧ hL h row = n ∧ n ≤ 28 ∧ ∀ k, k < n → tv h row k = jI (N k)
/-- the reference's -/
def TZ (h : AH) (m t n : Nat) (N : Nat → Int) : Prop := TS h m ∧ t < 4 ∧ hI h (m + 19) t = iI n ∧ n ≤ 28 ∧ (∀ k, k < n → hJ h (m + 20) (28 * t + k) = jI (N k)) ∧ ∀ k, -9223372036854775808 ≤ N k ∧ N k < 9223372036854775808
theorem TRP.yz {o : Nat → Nat} {hC hT : AH} {z m t : Nat} (cs : CS hC z) (ts : TS hT m) (ht : t < 4) (p : TRP o hC hT z m t) (hn : hI hT (m + 18) t ≠ iI (-1)) : ∃ (row n : Nat) (N : Nat → Int), o row = 70 + t ∧ TY hC z t row n N ∧ TZ hT m t n N := by
  rcases p with ⟨p1, p2⟩ | ⟨so, n, row, p1, p2, p3, p4, p5, p6, p7, p8⟩
  · exact absurd p1 hn
  · have kr : trK (hK hC row) := by unfold trK; rcases p8 with q | q | q | q <;> omega
    refine ⟨row, n, fun k => (hJ hT (m + 20) (28 * t + k)).toInt, p6, ⟨cs, ht, p5, kr, p7, p4, fun k hk => ?_⟩, ts, ht, p3, p4, fun k hk => (j_ex _).1, fun k => (j_ex _).2⟩
    rw [← (j_ex (hJ hT (m + 20) (28 * t + k))).1]
    unfold tv
    rcases p8 with ⟨q1, q2, q3⟩ | ⟨q1, q2, q3⟩ | ⟨q1, q2, q3⟩ | ⟨q1, q2, q3⟩
    · rw [if_neg (by omega)]; exact (q3 k hk).symm
    · rw [if_neg (by omega)]; exact (q3 k hk).symm
    · rw [if_neg (by omega)]; exact (q3 k hk).symm
    · rw [if_pos q2]; exact (q3 k hk).symm
theorem TY.k {h : AH} {z t row n : Nat} {N : Nat → Int} (Y : TY h z t row n N) : hK h (z + 440 + t) = 7 := (Y.1.wt t Y.2.1).2
theorem TY.size {h : AH} {z t row n : Nat} {N : Nat → Int} (Y : TY h z t row n N) : F_X7_size h (z + 440 + t) = some (.inl (iI n, h)) := by
  have := tsize_s Y.k Y.2.2.1 Y.2.2.2.1
  rw [Y.2.2.2.2.1] at this
  exact this
theorem TY.at {h : AH} {z t row n : Nat} {N : Nat → Int} (Y : TY h z t row n N) {k : Nat} (hk : k < n) : F_X7_at h (z + 440 + t) (iI k) = some (.inl (jI (N k), h)) := by
  have := tat_s Y.k Y.2.2.1 Y.2.2.2.1 (by rw [Y.2.2.2.2.1]; exact Y.2.2.2.2.2.1) (i := k) (by rw [Y.2.2.2.2.1]; exact hk)
  rw [Y.2.2.2.2.2.2 k hk] at this
  exact this
def allW (n : Nat) (N : Nat → Int) (M : Int) : Prop := ∀ k, k < n → 0 ≤ N k ∧ N k ≤ M
theorem isW_C {h : AH} {z t row n : Nat} {N : Nat → Int} (Y : TY h z t row n N) (hN : ∀ k, -9223372036854775808 ≤ N k ∧ N k < 9223372036854775808) {M : Int} (hM : 0 ≤ M ∧ M ≤ 99) : F_X7_isWithin h (z + 440 + t) (iI M) = some (.inl (bP (allW n N M), h)) := by
  have n28 := Y.2.2.2.2.2.1
  refine ok1_eq ?_
  unfold F_X7_isWithin G_X7_isWithin_2
  refine lp_ok (fun s k => ∃ i : Nat, s = (h, z + 440 + t, iI M, iI i) ∧ i ≤ n ∧ k = n - i ∧ ∀ j, j < i → 0 ≤ N j ∧ N j ≤ M) ?_ fuel n _ ⟨0, rfl, by omega, by omega, fun j hj => by omega⟩ (lt_fuel (by omega))
  rintro self s k ⟨i, rfl, h1, rfl, hP⟩ ih
  unfold L_X7_isWithin_2
  by_cases ho : (n : Int) ≤ (i : Int)
  · simp (disch := omega) only [i_lit, i_neg, i_add, i_sub, i_mul, i_ofNat, i_div, i_le, i_lt, i_eq, i_ix, i_inb, i_max, i_min, e_rem, j_lit, j_i, Int.reduceToNat, Int.reduceAdd, Int.reduceSub, Int.reduceMul, Int.reduceNeg, Int.reduceLT, Int.reduceLE, Int.reduceEq, gd_t, gd_T, ↓bd_m, ↓lh_t, ↓on_m, ↓ec_m, ↓reduceIte, if_true, if_false, true_and, and_true, false_and, and_false, true_or, or_true, false_or, or_false, Bool.false_eq_true, b2i_0, b2i_1, bl_0, bl_1, bl_b2, not_true_eq_false, not_false_eq_true, B_X7_isWithin_2, B_X7_isWithin_32, Y.k, Y.size, ho]
    refine Ok1.some ?_
    rw [bP_t (show allW n N M from fun k hk => hP k (by omega))]
  · have e1 := isIn_eq h (a := N i) (b := 0) (c := M) (hN i) (by omega) (by omega)
    by_cases q : 0 ≤ N i ∧ N i ≤ M
    · rw [b2_t q] at e1
      have nx := ih (h, z + 440 + t, iI M, iI ((i + 1 : Nat) : Int)) (n - (i + 1)) (by omega) ⟨i + 1, rfl, by omega, rfl, fun j hj => by
        by_cases w : j = i
        · subst w; exact q
        · exact hP j (by omega)⟩
      rw [show (((i + 1 : Nat)) : Int) = (i : Int) + 1 by omega] at nx
      simp (disch := omega) only [i_lit, i_neg, i_add, i_sub, i_mul, i_ofNat, i_div, i_le, i_lt, i_eq, i_ix, i_inb, i_max, i_min, e_rem, j_lit, j_i, Int.reduceToNat, Int.reduceAdd, Int.reduceSub, Int.reduceMul, Int.reduceNeg, Int.reduceLT, Int.reduceLE, Int.reduceEq, gd_t, gd_T, ↓bd_m, ↓lh_t, ↓on_m, ↓ec_m, ↓reduceIte, if_true, if_false, true_and, and_true, false_and, and_false, true_or, or_true, false_or, or_false, Bool.false_eq_true, b2i_0, b2i_1, bl_0, bl_1, bl_b2, not_true_eq_false, not_false_eq_true, B_X7_isWithin_2, Y.k, Y.size, ho, Y.at (show i < n by omega), e1]
      exact nx
    · rw [b2_f q] at e1
      simp (disch := omega) only [i_lit, i_neg, i_add, i_sub, i_mul, i_ofNat, i_div, i_le, i_lt, i_eq, i_ix, i_inb, i_max, i_min, e_rem, j_lit, j_i, Int.reduceToNat, Int.reduceAdd, Int.reduceSub, Int.reduceMul, Int.reduceNeg, Int.reduceLT, Int.reduceLE, Int.reduceEq, gd_t, gd_T, ↓bd_m, ↓lh_t, ↓on_m, ↓ec_m, ↓reduceIte, if_true, if_false, true_and, and_true, false_and, and_false, true_or, or_true, false_or, or_false, Bool.false_eq_true, b2i_0, b2i_1, bl_0, bl_1, bl_b2, not_true_eq_false, not_false_eq_true, B_X7_isWithin_2, B_X7_isWithin_24, Y.k, Y.size, ho, Y.at (show i < n by omega), e1]
      refine Ok1.some ?_
      rw [bP_f (show ¬ allW n N M from fun u => q (u i (by omega)))]
theorem stT {h : AH} {m t : Nat} {N : Nat → Int} (Z : TZ h m t 21 N) (s : Int32) {E : Option (Int32 × AH) → Prop} (H1 : allW 21 N 9 → E (G_X8_story_99 h m s (iI t) (iI 0))) (H2 : ¬ allW 21 N 9 → E (some (iI 0, h))) : E (G_X8_story_62 h m s (iI t) (iI 0)) := by
  obtain ⟨ts, ht, -, -, z5, z6⟩ := Z
  unfold G_X8_story_62
  refine lp_end (E := E) (fun st k => ∃ i : Nat, st = (h, m, s, iI t, iI i) ∧ i ≤ 21 ∧ k = 21 - i ∧ ∀ j, j < i → 0 ≤ N j ∧ N j ≤ 9) ?_ fuel 21 _ ⟨0, rfl, by omega, by omega, fun j hj => by omega⟩ (lt_fuel (by omega))
  rintro self st k ⟨i, rfl, h1, rfl, hP⟩ ih
  unfold L_X8_story_62
  by_cases ho : 21 ≤ (i : Int)
  · simp (disch := omega) only [i_lit, i_neg, i_add, i_sub, i_mul, i_ofNat, i_div, i_le, i_lt, i_eq, i_ix, i_inb, i_max, i_min, e_rem, j_lit, j_i, Int.reduceToNat, Int.reduceAdd, Int.reduceSub, Int.reduceMul, Int.reduceNeg, Int.reduceLT, Int.reduceLE, Int.reduceEq, gd_t, gd_T, ↓bd_m, ↓lh_t, ↓on_m, ↓ec_m, ↓reduceIte, if_true, if_false, true_and, and_true, false_and, and_false, true_or, or_true, false_or, or_false, Bool.false_eq_true, b2i_0, b2i_1, bl_0, bl_1, bl_b2, not_true_eq_false, not_false_eq_true, B_X8_story_62, B_X8_story_97, ho]
    exact H1 (fun k hk => hP k (by omega))
  · have e1 := within_eq h (a := N i) (b := 0) (c := 9) (z6 i) (by omega) (by omega)
    have y : (28 * (t : Int) + (i : Int)).toNat = 28 * t + i := by omega
    have v := z5 i (by omega)
    by_cases q : 0 ≤ N i ∧ N i ≤ 9
    · rw [b2_t q] at e1
      have nx := ih (h, m, s, iI t, iI ((i + 1 : Nat) : Int)) (21 - (i + 1)) (by omega) ⟨i + 1, rfl, by omega, rfl, fun j hj => by
        by_cases w : j = i
        · subst w; exact q
        · exact hP j (by omega)⟩
      rw [show (((i + 1 : Nat)) : Int) = (i : Int) + 1 by omega] at nx
      simp (disch := omega) only [i_lit, i_neg, i_add, i_sub, i_mul, i_ofNat, i_div, i_le, i_lt, i_eq, i_ix, i_inb, i_max, i_min, e_rem, j_lit, j_i, Int.reduceToNat, Int.reduceAdd, Int.reduceSub, Int.reduceMul, Int.reduceNeg, Int.reduceLT, Int.reduceLE, Int.reduceEq, gd_t, gd_T, ↓bd_m, ↓lh_t, ↓on_m, ↓ec_m, ↓reduceIte, if_true, if_false, true_and, and_true, false_and, and_false, true_or, or_true, false_or, or_false, Bool.false_eq_true, b2i_0, b2i_1, bl_0, bl_1, bl_b2, not_true_eq_false, not_false_eq_true, B_X8_story_62, ho, ts.k, ts.r1, ts.k1, ts.l1, ts.r2, ts.k2, ts.l2, ts.r3, ts.k3, ts.l3, ts.r4, ts.k4, ts.l4, ts.r5, ts.k5, ts.l5, ts.r6, ts.k6, ts.l6, ts.r7, ts.k7, ts.l7, ts.r8, ts.k8, ts.l8, ts.r9, ts.k9, ts.l9, ts.r10, ts.k10, ts.l10, ts.r11, ts.k11, ts.l11, ts.r12, ts.k12, ts.l12, ts.r13, ts.k13, ts.l13, ts.r14, ts.k14, ts.l14, ts.r15, ts.k15, ts.l15, ts.r16, ts.k16, ts.l16, ts.r17, ts.k17, ts.l17, ts.r18, ts.k18, ts.l18, ts.r19, ts.k19, ts.l19, ts.r20, ts.k20, ts.l20, y, v, e1]
      exact nx
    · rw [b2_f q] at e1
      simp (disch := omega) only [i_lit, i_neg, i_add, i_sub, i_mul, i_ofNat, i_div, i_le, i_lt, i_eq, i_ix, i_inb, i_max, i_min, e_rem, j_lit, j_i, Int.reduceToNat, Int.reduceAdd, Int.reduceSub, Int.reduceMul, Int.reduceNeg, Int.reduceLT, Int.reduceLE, Int.reduceEq, gd_t, gd_T, ↓bd_m, ↓lh_t, ↓on_m, ↓ec_m, ↓reduceIte, if_true, if_false, true_and, and_true, false_and, and_false, true_or, or_true, false_or, or_false, Bool.false_eq_true, b2i_0, b2i_1, bl_0, bl_1, bl_b2, not_true_eq_false, not_false_eq_true, B_X8_story_62, B_X8_story_89, ho, ts.k, ts.r1, ts.k1, ts.l1, ts.r2, ts.k2, ts.l2, ts.r3, ts.k3, ts.l3, ts.r4, ts.k4, ts.l4, ts.r5, ts.k5, ts.l5, ts.r6, ts.k6, ts.l6, ts.r7, ts.k7, ts.l7, ts.r8, ts.k8, ts.l8, ts.r9, ts.k9, ts.l9, ts.r10, ts.k10, ts.l10, ts.r11, ts.k11, ts.l11, ts.r12, ts.k12, ts.l12, ts.r13, ts.k13, ts.l13, ts.r14, ts.k14, ts.l14, ts.r15, ts.k15, ts.l15, ts.r16, ts.k16, ts.l16, ts.r17, ts.k17, ts.l17, ts.r18, ts.k18, ts.l18, ts.r19, ts.k19, ts.l19, ts.r20, ts.k20, ts.l20, y, v, e1]
      exact H2 (fun u => q (u i (by omega)))
theorem RL.wgt {o : Nat → Nat} {hC hT : AH} {z m x : Nat} {τ : Nat → Int} {υ : Nat → Int64} {e : Nat → Nat} {el : Nat → Nat → Nat} {lw : Nat} (r : RL o hC hT z m x τ υ e el lw) {s l : Nat} (hs : s < 2) (hl : l < 21) {v : Int} (hv : 0 ≤ v ∧ v ≤ 9) : RL o (wI hC (x + 266 + s) l (iI v)) (wI hT (m + 1) (78 + 21 * s + l) (iI v)) z m x (upT τ (78 + 21 * s + l) v) υ e el lw := by
  have c := r.c
  have hn4 := c.rg.n
  have oW : o (x + 266 + s) = 2 := by have := c.ox (266 + s) (by omega) (by omega); rw [show x + (266 + s) = x + 266 + s by omega] at this; exact this
  have kW := (c.w s hs).2.1
  generalize hh : wI hC (x + 266 + s) l (iI v) = hC'
  have kk : hK hC' = hK hC := by rw [← hh]; rfl
  have kL : hL hC' = hL hC := by rw [← hh]; rfl
  have kn : hn hC' = hn hC := by rw [← hh]; rfl
  have s1 : ∀ a, a < hn hC → ¬ (fun a => a = x + 266 + s) a → sm hC hC' a := fun a _ q => by rw [← hh]; exact sm_wI q
  have hM : ∀ a, (fun a => a = x + 266 + s) a → o a = 2 ∧ ¬ imK (hK hC a) ∧ hK hC a ≠ 120 := fun a q => by
    have q : a = x + 266 + s := q
    rw [q, kW]
    exact ⟨oW, by unfold imK; omega, by omega⟩
  have fs := RL.keep r (o' := o) (fun a => a = x + 266 + s) hM s1 (fun _ _ => rfl)
  have hτ : ∀ i : Nat, i ≠ 78 + 21 * s + l → upT τ (78 + 21 * s + l) v i = τ i := fun i q => upT_o q
  have hυ : ∀ i : Nat, i < 9 → υ i = υ i := fun _ _ => rfl
  have nE : ∀ j, j < 5 → hK hC (e j) = 108 → ¬ (e j = x + 266 + s) := fun j hj q w => by
    have := (c.oe j hj).2.2
    omega
  have tn' := r.tn.set (78 + 21 * s + l) (v := v) (by omega)
  obtain ⟨fim, f6, f7, h00, f2, o2⟩ := fs
  have sx0 : sm hC hC' x := f2 x (c.ox 0 (by omega) (by omega)) (by omega)
  have sx1 : sm hC hC' (x + 1) := f2 _ (c.ox 1 (by omega) (by omega)) (by omega)
  have sx2 : sm hC hC' (x + 2) := f2 _ (c.ox 2 (by omega) (by omega)) (by omega)
  have sx3 : sm hC hC' (x + 3) := f2 _ (c.ox 3 (by omega) (by omega)) (by omega)
  have sx4 : sm hC hC' (x + 4) := f2 _ (c.ox 4 (by omega) (by omega)) (by omega)
  have sx5 : sm hC hC' (x + 5) := f2 _ (c.ox 5 (by omega) (by omega)) (by omega)
  have sx7 : sm hC hC' (x + 7) := f2 _ (c.ox 7 (by omega) (by omega)) (by omega)
  have sx264 : sm hC hC' (x + 264) := f2 _ (c.ox 264 (by omega) (by omega)) (by omega)
  have sx265 : sm hC hC' (x + 265) := f2 _ (c.ox 265 (by omega) (by omega)) (by omega)
  have sk : ∀ k, k < 256 → sm hC hC' (x + 8 + k) := fun k hk => by
    have := f2 (x + (8 + k)) (c.ox (8 + k) (by omega) (by omega)) (by omega)
    rw [show x + (8 + k) = x + 8 + k by omega] at this
    exact this
  have sl : sm hC hC' lw := fim lw (by rw [c.kL]; unfold imK; omega)
  have e0s : sm hC hC' (e 0) := by
    rcases c.a0.c with q | q
    · exact f2 _ ((c.oe 0 (by omega)).1 q.1) (nE 0 (by omega) q.1)
    · exact (f7 _ q.2.1).1
  have e1s : sm hC hC' (e 1) := by
    rcases c.a1.c with q | q
    · exact f2 _ ((c.oe 1 (by omega)).1 q.1) (nE 1 (by omega) q.1)
    · exact (f7 _ q.2.1).1
  have e2s : sm hC hC' (e 2) := by
    rcases c.a2.c with q | q
    · exact f2 _ ((c.oe 2 (by omega)).1 q.1) (nE 2 (by omega) q.1)
    · exact (f7 _ q.2.1).1
  have e3s : sm hC hC' (e 3) := by
    rcases c.a3.c with q | q
    · exact f2 _ ((c.oe 3 (by omega)).1 q.1) (nE 3 (by omega) q.1)
    · exact (f7 _ q.2.1).1
  have e4s : sm hC hC' (e 4) := by
    rcases c.a4.c with q | q
    · exact f2 _ ((c.oe 4 (by omega)).1 q.1) (nE 4 (by omega) q.1)
    · exact (f7 _ q.2.1).1
  have es : ∀ j, j < 5 → sm hC hC' (e j) := by
    intro j hj
    rcases (show j = 0 ∨ j = 1 ∨ j = 2 ∨ j = 3 ∨ j = 4 by omega) with rfl | rfl | rfl | rfl | rfl
    · exact e0s
    · exact e1s
    · exact e2s
    · exact e3s
    · exact e4s
  have sst : ∀ i : Nat, (i : Int) < τ 0 → sm hC hC' (el 0 i) := fun i hi => f2 _ (c.os i hi).1 (by have := (c.os i hi).2; omega)
  have rg' : RG (upT τ (78 + 21 * s + l) v) := ⟨by rw [hτ 0 (by omega)]; exact c.rg.n,
    by rw [hτ 1 (by omega)]; exact c.rg.d,
    by rw [hτ 2 (by omega)]; exact c.rg.h,
    by rw [hτ 3 (by omega)]; exact c.rg.l,
    by rw [hτ 4 (by omega)]; exact c.rg.r,
    by rw [hτ 5 (by omega)]; exact c.rg.t,
    by rw [hτ 6 (by omega)]; exact c.rg.c,
    fun i hi => by rw [hτ _ (by omega)]; exact c.rg.cost i hi,
    fun i hi => by rw [hτ _ (by omega)]; exact c.rg.price i hi,
    fun i hi => by rw [hτ _ (by omega)]; exact c.rg.late i hi,
    fun i hi => by rw [hτ _ (by omega)]; exact c.rg.first i hi,
    fun i hi => by rw [hτ 0 (by omega)] at hi; have := c.rg.n; rw [hτ (24 + i) (by omega), hτ 2 (by omega)]; exact c.rg.chg i hi,
    fun k hk => by rw [hτ 1 (by omega)] at hk; have := c.rg.d; rw [hτ (28 + 4 * k) (by omega), hτ (29 + 4 * k) (by omega), hτ (30 + 4 * k) (by omega), hτ (31 + 4 * k) (by omega), hτ 0 (by omega)]; exact c.rg.drv k hk,
    fun i hi => by rw [hτ _ (by omega)]; exact c.rg.lev i hi,
    fun i hi => by rw [hτ 4 (by omega)] at hi; have := c.rg.r; rw [hτ _ (by omega)]; exact c.rg.rise i hi,
    fun i hi => by
          by_cases q : 78 + i = 78 + 21 * s + l
          · rw [q, upT_s]; omega
          · rw [hτ _ q]; exact c.rg.wgt i hi,
    by rw [hτ 120 (by omega)]; exact c.rg.once,
    by rw [hτ 121 (by omega)]; exact c.rg.at,
    by rw [hτ 122 (by omega)]; exact c.rg.cap,
    by rw [hτ 123 (by omega)]; exact c.rg.told,
    by rw [hτ 124 (by omega)]; exact c.rg.byc,
    fun i hi => by rw [hτ _ (by omega)]; exact c.rg.brd i hi,
    fun i hi => by rw [hτ _ (by omega)]; exact c.rg.row i hi,
    fun k hk => by rw [hτ 6 (by omega)] at hk; have := c.rg.c; rw [hτ (3149 + 3 * k) (by omega), hτ (3150 + 3 * k) (by omega), hτ (3151 + 3 * k) (by omega)]; exact c.rg.chn k hk,
    tn'.g⟩
  have c' : CrP o 2 hC' x (upT τ (78 + 21 * s + l) v) υ e el lw := ⟨by rw [sx0.1]; exact c.k,
    by rw [sx0.2.2.2.2]; exact c.r0,
    by rw [sx0.2.2.2.2]; exact c.r1,
    by rw [sx0.2.2.2.2]; exact c.r2,
    by rw [sx0.2.2.2.2]; exact c.r3,
    by rw [sx0.2.2.2.2]; exact c.r4,
    by rw [sx0.2.2.2.2]; exact c.r5,
    by rw [sx0.2.2.2.2]; exact c.r6,
    by rw [sx0.2.2.2.2]; exact c.r7,
    by rw [sx0.2.2.2.2]; exact c.r8,
    by rw [sx0.2.2.1, hτ 2 (by omega)]; exact c.i9,
    by rw [sx0.2.2.1, hτ 3 (by omega)]; exact c.i10,
    by rw [sx0.2.2.2.1, hυ 8 (by omega)]; exact c.j11,
    by rw [sx7.1]; exact c.kb,
    by rw [sx7.2.1]; exact c.lb,
    fun k hk => ⟨by rw [sx7.2.2.2.2]; exact (c.b k hk).1, by rw [(sk k hk).1]; exact (c.b k hk).2.1, by rw [(sk k hk).2.1]; exact (c.b k hk).2.2.1, fun s hs => by rw [(sk k hk).2.2.1, hτ _ (by omega)]; exact (c.b k hk).2.2.2 s hs⟩,
    by rw [sx264.1]; exact c.kl,
    by rw [sx264.2.1]; exact c.ll,
    fun i hi => by rw [sx264.2.2.1, hτ _ (by omega)]; exact c.l i hi,
    by rw [sx265.1]; exact c.kw,
    by rw [sx265.2.1]; exact c.lw_,
    fun s' hs' => by
          obtain ⟨w1, w2, w3, w4⟩ := c.w s' hs'
          refine ⟨by rw [sx265.2.2.2.2]; exact w1, by rw [kk]; exact w2, by rw [kL]; exact w3, fun l' hl' => ?_⟩
          rw [← hh, hI_wI]
          by_cases q : s' = s ∧ l' = l
          · rw [if_pos (by omega), q.1, q.2, upT_s]
          · rw [if_neg (by omega), hτ _ (by omega)]
            exact w4 l' hl',
    by rw [sl.1]; exact c.kL,
    by rw [sl.2.2.1, hτ 120 (by omega)]; exact c.L0,
    by rw [sl.2.2.1, hτ 121 (by omega)]; exact c.L1,
    by rw [sl.2.2.1, hτ 122 (by omega)]; exact c.L2,
    by rw [sl.2.2.1, hτ 123 (by omega)]; exact c.L3,
    by rw [sl.2.2.1, hτ 124 (by omega)]; exact c.L4,
    by rw [hτ 0 (by omega)]; exact c.a0.fr sx1 e0s h00,
    by rw [hτ 1 (by omega)]; exact c.a1.fr sx2 e1s h00,
    by rw [hτ 6 (by omega)]; exact c.a2.fr sx3 e2s h00,
    by rw [hτ 4 (by omega)]; exact c.a3.fr sx4 e3s h00,
    by rw [hτ 5 (by omega)]; exact c.a4.fr sx5 e4s h00,
    fun i hi => by
    rw [hτ 0 (by omega)] at hi
    have hi4 := c.rg.n
    exact ⟨by rw [e0s.2.2.2.2]; exact (c.st i hi).1, ((c.st i hi).2.fr fim f6 (fun a q => (f7 a q).1) h00 (sst i hi)).cg (hτ _ (by omega)) (hτ _ (by omega)) (hτ _ (by omega)) (hτ _ (by omega)) (hτ _ (by omega)) (hυ _ (by omega)) (hυ _ (by omega)) (fun j hj => hτ _ (by omega))⟩,
    fun k hk => by
    rw [hτ 1 (by omega)] at hk
    have hk6 := c.rg.d
    obtain ⟨k1, k2, k3, k4, k5, k6⟩ := c.dr k hk
    have sk := fim (el 1 k) (by rw [k2]; unfold imK; omega)
    exact ⟨by rw [e1s.2.2.2.2]; exact k1, by rw [sk.1]; exact k2, by rw [sk.2.2.1, hτ _ (by omega)]; exact k3, by rw [sk.2.2.1, hτ _ (by omega)]; exact k4, by rw [sk.2.2.1, hτ _ (by omega)]; exact k5, by rw [sk.2.2.1, hτ _ (by omega)]; exact k6⟩,
    fun k hk => by
    rw [hτ 6 (by omega)] at hk
    have hk6 := c.rg.c
    obtain ⟨k1, k2, k3, k4, k5⟩ := c.ch k hk
    have sk := fim (el 2 k) (by rw [k2]; unfold imK; omega)
    exact ⟨by rw [e2s.2.2.2.2]; exact k1, by rw [sk.1]; exact k2, by rw [sk.2.2.1, hτ _ (by omega)]; exact k3, by rw [sk.2.2.1, hτ _ (by omega)]; exact k4, by rw [sk.2.2.1, hτ _ (by omega)]; exact k5⟩,
    fun k hk => by
    rw [hτ 4 (by omega)] at hk
    have hk6 := c.rg.r
    obtain ⟨k1, k2, k3, k4, k5, k6, k7⟩ := c.ri k hk
    have sk := f6 _ k3
    refine ⟨by rw [e3s.2.2.2.2]; exact k1, by rw [sk.1.1]; exact k2, sk.2, by rw [hτ _ (by omega)]; exact k4, by rw [sk.1.2.1, hτ (61 + 3 * k) (by omega), hτ (62 + 3 * k) (by omega)]; exact k5, by rw [hτ (61 + 3 * k) (by omega), hτ (62 + 3 * k) (by omega)]; exact k6, fun j hj => ?_⟩
    rw [sk.1.2.1] at hj
    have hj3 : j < 3 := by rw [k5] at hj; split at hj <;> (try split at hj) <;> omega
    rw [sk.1.2.2.1, hτ _ (by omega)]
    exact k7 j hj,
    fun k hk => by
    rw [hτ 5 (by omega)] at hk
    have hk6 := c.rg.t
    have hk7 := c.rg.n
    obtain ⟨k1, k2, k3, k4, k5⟩ := c.to k hk
    have sk := f6 _ k3
    exact ⟨by rw [e4s.2.2.2.2]; exact k1, by rw [sk.1.1]; exact k2, sk.2, by rw [sk.1.2.1]; exact k4, fun s hs => by rw [hτ 0 (by omega)] at hs; rw [sk.1.2.2.1, hτ _ (by omega)]; exact k5 s hs⟩,
    rg',
    fun i h1 h2 => o2 _ (c.ox i h1 h2),
    fun j hj => by
    have ej := es j hj
    rw [ej.1]
    exact ⟨fun q => o2 _ ((c.oe j hj).1 q), fun q => (f7 _ q).2 ((c.oe j hj).2.1 q), (c.oe j hj).2.2⟩,
    fun j k hj hk q1 q2 => by
    rw [(es j hj).1] at q1
    exact c.ne j k hj hk q1 q2,
    fun i hi => by
    rw [hτ 0 (by omega)] at hi
    exact ⟨o2 _ (c.os i hi).1, (c.os i hi).2⟩,
    fun i j hi hj q => by
    rw [hτ 0 (by omega)] at hi hj
    exact c.ns i j hi hj q,
    fun s h1 h2 => by rw [hτ 0 (by omega)] at h1; exact c.zz s h1 h2⟩
  exact r.upd (fun a => a = x + 266 + s) hM s1 (fun a _ => by rw [kk]) (by omega) (fun a q => by rw [kk]; exact r.ho a (by omega)) (fun a q => by rw [kk, (r.ho a (by omega)).1]; omega) (fun _ _ => rfl) c' tn' r.tj (sm_wI (by omega)).2.2.1 rfl (sm_wI (by omega)).2.2.1 (sm_wI (by omega)).2.2.1 (sm_wI (by omega)).2.2.1 (sm_wI (by omega)).2.2.1 rfl (by rw [hI_wI, if_neg (by omega)]) (by rw [hI_wI, if_neg (by omega)]) (by rw [hI_wI, if_neg (by omega)]) rfl rfl
/-- what a story's loop leaves -/
def StE (z m x : Nat) (hC hT g gT : AH) : Prop := Rx g gT z m ∧ tf (fun a => a = x + 266 ∨ a = x + 267) hC g ∧ tf (fun a => a = m + 1) hT gT
theorem story_run {o : Nat → Nat} {hC hT : AH} {z m x : Nat} {τ : Nat → Int} {υ : Nat → Int64} {e : Nat → Nat} {el : Nat → Nat → Nat} {lw : Nat} (r : RL o hC hT z m x τ υ e el lw) {s t row : Nat} {N : Nat → Int} (hs : s < 2) (orow : o row = 70 + t) (Y : TY hC z t row 21 N) (Z : TZ hT m t 21 N) (hW : allW 21 N 9) : Ok2 (G_X1_story_39 hC z (iI s) (z + 440 + t) (iI 0)) (G_X8_story_99 hT m (iI s) (iI t) (iI 0)) (fun a b => ∃ g gT, a = .inl (iI 1, g) ∧ b = (iI 1, gT) ∧ StE z m x hC hT g gT) := by
  have hm := r.m
  have t4 := Y.2.1
  have nrow : row ≠ x + 266 ∧ row ≠ x + 267 := by
    have h1 := r.c.ox 266 (by omega) (by omega)
    have h2 := r.c.ox 267 (by omega) (by omega)
    exact ⟨fun q => by rw [q] at orow; omega, fun q => by rw [q] at orow; omega⟩
  unfold G_X1_story_39 G_X8_story_99
  refine lp_ok2 (fun st u k => ∃ (g gT : AH) (τ' : Nat → Int) (i : Nat), st = (g, z, iI s, z + 440 + t, iI i) ∧ u = (gT, m, iI s, iI t, iI i) ∧ i ≤ 21 ∧ k = 21 - i ∧ RL o g gT z m x τ' υ e el lw ∧ tf (fun a => a = x + 266 ∨ a = x + 267) hC g ∧ tf (fun a => a = m + 1) hT gT) ?_ fuel 21 _ _ ⟨hC, hT, τ, 0, rfl, rfl, by omega, by omega, r, tf.rfl, tf.rfl⟩ (lt_fuel (by omega))
  rintro f1 f2 st u k ⟨g, gT, τ', i, rfl, rfl, h1, rfl, r', T1, T2⟩ ih
  unfold L_X1_story_39 L_X8_story_99
  by_cases ho : 21 ≤ (i : Int)
  · simp (disch := omega) only [i_lit, i_neg, i_add, i_sub, i_mul, i_ofNat, i_div, i_le, i_lt, i_eq, i_ix, i_inb, i_max, i_min, e_rem, j_lit, j_i, Int.reduceToNat, Int.reduceAdd, Int.reduceSub, Int.reduceMul, Int.reduceNeg, Int.reduceLT, Int.reduceLE, Int.reduceEq, gd_t, gd_T, ↓bd_m, ↓lh_t, ↓on_m, ↓ec_m, ↓reduceIte, if_true, if_false, true_and, and_true, false_and, and_false, true_or, or_true, false_or, or_false, Bool.false_eq_true, b2i_0, b2i_1, bl_0, bl_1, bl_b2, not_true_eq_false, not_false_eq_true, B_X1_story_39, B_X1_story_71, B_X8_story_99, B_X8_story_137, ho]
    exact Ok2.some ⟨g, gT, rfl, rfl, ⟨o, x, τ', υ, e, el, lw, r'⟩, T1, T2⟩
  · have c := r'.c
    have cs := r'.cs
    have hz := r'.hz
    have ts := r'.tn.s
    have hv := hW i (by omega)
    have Y' : TY g z t row 21 N := ⟨cs, Y.2.1, by rw [T1.R]; exact Y.2.2.1, by rw [T1.K]; exact Y.2.2.2.1, by rw [T1.L]; exact Y.2.2.2.2.1, Y.2.2.2.2.2.1, fun k hk => by
      have := Y.2.2.2.2.2.2 k hk
      unfold tv at this ⊢
      rw [T1.K, T1.I (by omega), T1.J (by omega)]
      exact this⟩
    have vT : hJ gT (m + 20) (28 * t + i) = jI (N i) := by rw [T2.J (by omega)]; exact Z.2.2.2.2.1 i (by omega)
    obtain ⟨w1, w2, w3, -⟩ := c.w s hs
    have y : (28 * (t : Int) + (i : Int)).toNat = 28 * t + i := by omega
    have y2 : (78 + 21 * (s : Int) + (i : Int)).toNat = 78 + 21 * s + i := by omega
    have R2 := r'.wgt (s := s) (l := i) hs (by omega) hv
    simp (disch := omega) only [i_lit, i_neg, i_add, i_sub, i_mul, i_ofNat, i_div, i_le, i_lt, i_eq, i_ix, i_inb, i_max, i_min, e_rem, j_lit, j_i, Int.reduceToNat, Int.reduceAdd, Int.reduceSub, Int.reduceMul, Int.reduceNeg, Int.reduceLT, Int.reduceLE, Int.reduceEq, gd_t, gd_T, ↓bd_m, ↓on_m, ↓ec_m, ↓reduceIte, if_true, if_false, true_and, and_true, false_and, and_false, true_or, or_true, false_or, or_false, Bool.false_eq_true, b2i_0, b2i_1, bl_0, bl_1, bl_b2, not_true_eq_false, not_false_eq_true, B_X1_story_39, B_X8_story_99, ho, cs.k, hz, c.k, c.r8, c.kw, c.lw_, w1, Y'.k, Y'.at (show i < 21 by omega), w2, w3, ts.k, ts.r1, ts.k1, ts.l1, ts.r2, ts.k2, ts.l2, ts.r3, ts.k3, ts.l3, ts.r4, ts.k4, ts.l4, ts.r5, ts.k5, ts.l5, ts.r6, ts.k6, ts.l6, ts.r7, ts.k7, ts.l7, ts.r8, ts.k8, ts.l8, ts.r9, ts.k9, ts.l9, ts.r10, ts.k10, ts.l10, ts.r11, ts.k11, ts.l11, ts.r12, ts.k12, ts.l12, ts.r13, ts.k13, ts.l13, ts.r14, ts.k14, ts.l14, ts.r15, ts.k15, ts.l15, ts.r16, ts.k16, ts.l16, ts.r17, ts.k17, ts.l17, ts.r18, ts.k18, ts.l18, ts.r19, ts.k19, ts.l19, ts.r20, ts.k20, ts.l20, y, y2, vT, j_i32, Int.toNat_natCast]
    have PW : (fun a => a = x + 266 ∨ a = x + 267) (x + 266 + s) := by show _ ∨ _; omega
    have nx := ih (wI g (x + 266 + s) i (iI (N i)), z, iI s, z + 440 + t, iI ((i + 1 : Nat) : Int)) (wI gT (m + 1) (78 + 21 * s + i) (iI (N i)), m, iI s, iI t, iI ((i + 1 : Nat) : Int)) (21 - (i + 1)) (by omega) ⟨_, _, _, i + 1, rfl, rfl, by omega, rfl, R2, T1.trans (tf_wI PW), T2.trans (tf_wI rfl)⟩
    rw [show (((i + 1 : Nat)) : Int) = (i : Int) + 1 by omega] at nx
    simp (disch := omega) only [i_lit, i_neg, i_add, i_sub, i_mul, i_ofNat, i_div, i_le, i_lt, i_eq, i_ix, i_inb, i_max, i_min, e_rem, j_lit, j_i, Int.reduceToNat, Int.reduceAdd, Int.reduceSub, Int.reduceMul, Int.reduceNeg, Int.reduceLT, Int.reduceLE, Int.reduceEq, gd_t, gd_T, ↓bd_m, ↓lh_t, ↓on_m, ↓ec_m, ↓reduceIte, if_true, if_false, true_and, and_true, false_and, and_false, true_or, or_true, false_or, or_false, Bool.false_eq_true, b2i_0, b2i_1, bl_0, bl_1, bl_b2, not_true_eq_false, not_false_eq_true, B_X1_story_65, B_X8_story_131]
    exact nx
theorem op_story {z m : Nat} (x1 x2 : Int32) : ∀ hC hT, Rx hC hT z m → rm z hC → Ok2 (F_X0_story hC z x1 x2 (z + 495)) (F_X8_story hT m x1 x2) (fun a b => VB z m a b ∧ FC z hC a.2 ∧ FT m hT b.2 ∧ Rx a.2 b.2 z m) := by
  intro hC hT ⟨o, x, τ, υ, e, el, lw, r⟩ g
  have hn4 := r.c.rg.n
  have cs := r.cs
  have c := r.c
  have hz := r.hz
  have ts0 := r.tn.s
  have tn := r.tn.wm 5 (iI 0)
  have ti := tn.i
  have ts := tn.s
  have hgi := c.rg.i
  have gr : 1 ≤ hc hC ∧ 6 ≤ hs hC := by have := g.1; have := g.2.1; omega
  obtain ⟨s, rfl, hss⟩ := i_ex x1
  obtain ⟨t, rfl, ht⟩ := i_ex x2
  have hg1 := g.1
  have hg2 := g.2.1
  have hm := r.m
  have n10F : (iI 1 = iI 0) = False := eq_false (by decide)
  have e1 := within_eq hT (a := s) (b := 0) (c := 1) (by omega) (by omega) (by omega)
  have e2 := isIn_eq hC (a := s) (b := 0) (c := 1) (by omega) (by omega) (by omega)
  have e3 := isTray_eq hT ht
  have bad : ∀ (k : Int32) (h' : AH), k ≠ 0 → FC z hC h' → RL o h' hT z m x τ υ e el lw → VB z m (k, h') (iI 0, wI hT m 5 k) ∧ FC z hC h' ∧ FT m hT (wI hT m 5 k) ∧ Rx h' (wI hT m 5 k) z m := fun k h' hk F r' => ⟨⟨by show k = _; rw [hI5], fun w => absurd w hk⟩, F, FT.thr _ _ _ _, ⟨o, x, τ, υ, e, el, lw, r'.thr 5 (by omega) _⟩⟩
  have no : VB z m (iI 0, wJ hC (z + 495) 0 (jI 0)) (iI 0, wI hT m 5 (iI 0)) ∧ FC z hC (wJ hC (z + 495) 0 (jI 0)) ∧ FT m hT (wI hT m 5 (iI 0)) ∧ Rx (wJ hC (z + 495) 0 (jI 0)) (wI hT m 5 (iI 0)) z m := by
    refine ⟨⟨?_, fun _ => ?_⟩, FC.out _ _ _ _, FT.thr _ _ _ _, ⟨o, x, τ, υ, e, el, lw, (r.out g _ _).thr 5 (by omega) _⟩⟩
    · show _ = hI (wI hT m 5 (iI 0)) m 5
      rw [hI5]
    · show hJ (wJ _ _ _ _) _ _ = _
      rw [hJ_wJ, if_pos ⟨rfl, rfl⟩]
      rfl
  by_cases q1 : 0 ≤ s ∧ s ≤ 1
  · rw [b2_t q1] at e1 e2
    by_cases q2 : 0 ≤ t ∧ t ≤ 3
    · rw [b2_t q2] at e3
      obtain ⟨s, rfl⟩ := Int.eq_ofNat_of_zero_le q1.1
      obtain ⟨t, rfl⟩ := Int.eq_ofNat_of_zero_le q2.1
      have tO := trayOf_t cs (t := t) (by omega)
      have w7 := (cs.wt t (by omega)).2
      by_cases q3 : hI hT (m + 18) t = iI (-1)
      · rcases r.tr t (by omega) with ⟨p1, p2⟩ | ⟨so, n, row, p1, p2, -⟩
        · have g1 : 1 ≤ hc hC ∧ 8 ≤ hs hC := by omega
          have g2 : 1 ≤ hc (nz hC 1 8) ∧ 6 ≤ hs (nz hC 1 8) := by rw [hc_nz, hs_nz]; omega
          simp (disch := omega) only [i_lit, i_neg, i_add, i_sub, i_mul, i_ofNat, i_div, i_le, i_lt, i_eq, i_ix, i_inb, i_max, i_min, e_rem, j_lit, j_i, Int.reduceToNat, Int.reduceAdd, Int.reduceSub, Int.reduceMul, Int.reduceNeg, Int.reduceLT, Int.reduceLE, Int.reduceEq, gd_t, gd_T, ↓bd_m, ↓lh_t, ↓on_m, ↓ec_m, ↓reduceIte, if_true, if_false, true_and, and_true, false_and, and_false, true_or, or_true, false_or, or_false, Bool.false_eq_true, b2i_0, b2i_1, bl_0, bl_1, bl_b2, not_true_eq_false, not_false_eq_true, F_X0_story, F_X1_story, B_X1_story_73, B_X0_story_24, F_X8_story, B_X8_story_37, B_X8_story_40, B_X8_story_58, cs.k, e2, there_t, tO, w7, tsize_n w7 p2 g1, g2, ts0.k, ts0.r1, ts0.k1, ts0.l1, ts0.r2, ts0.k2, ts0.l2, ts0.r3, ts0.k3, ts0.l3, ts0.r4, ts0.k4, ts0.l4, ts0.r5, ts0.k5, ts0.l5, ts0.r6, ts0.k6, ts0.l6, ts0.r7, ts0.k7, ts0.l7, ts0.r8, ts0.k8, ts0.l8, ts0.r9, ts0.k9, ts0.l9, ts0.r10, ts0.k10, ts0.l10, ts0.r11, ts0.k11, ts0.l11, ts0.r12, ts0.k12, ts0.l12, ts0.r13, ts0.k13, ts0.l13, ts0.r14, ts0.k14, ts0.l14, ts0.r15, ts0.k15, ts0.l15, ts0.r16, ts0.k16, ts0.l16, ts0.r17, ts0.k17, ts0.l17, ts0.r18, ts0.k18, ts0.l18, ts0.r19, ts0.k19, ts0.l19, ts0.r20, ts0.k20, ts0.l20, e1, e3, q3, hK_wI, hI5, Nat.reduceEqDiff, Int.toNat_natCast]
          exact Ok2.some (bad _ _ (by decide) (FCnz r (by omega) (by omega)) ((r.nz 1 8).nw0 0 6))
        · rw [p1, i_eq (by omega) (by omega)] at q3
          omega
      · obtain ⟨row, n, N, orow, Y, Z⟩ := TRP.yz cs r.tn.s (by omega) (r.tr t (by omega)) q3
        have qF : (hI hT (m + 18) t = iI (-1)) = False := eq_false q3
        have i19 : hI (wI hT m 5 (iI 0)) (m + 19) t = iI n := by rw [hI_wI, if_neg (by omega)]; exact Z.2.2.1
        have n28 := Z.2.2.2.1
        by_cases q4 : n = 21
        · subst q4
          have Z1 : TZ (wI hT m 5 (iI 0)) m t 21 N := ⟨tn.s, Z.2.1, i19, Z.2.2.2.1, Z.2.2.2.2.1, Z.2.2.2.2.2⟩
          have t21 : (((21 : Nat) : Int) = 21) = True := eq_true rfl
          have w1 := isW_C Y Z.2.2.2.2.2 (M := 9) (by omega)
          by_cases q5 : allW 21 N 9
          · rw [bP_t q5] at w1
            obtain ⟨a, b, k1, k2, gE, gTE, rfl, rfl, ⟨oE, xE, τE, υE, eE, elE, lwE, rE⟩, T1, T2⟩ := story_run (r.thr 5 (by omega) (iI 0)) (s := s) (by omega) orow Y Z1 q5
            have kT : G_X8_story_62 (wI hT m 5 (iI 0)) m (iI s) (iI t) (iI 0) = some (iI 1, gTE) := stT Z1 _ (E := fun X => X = some (iI 1, gTE)) (fun _ => k2) (fun u => absurd q5 u)
            have x495 : ¬ (z + 474 ≤ x + 266 ∧ x + 266 ≤ z + 495) ∧ ¬ (z + 474 ≤ x + 267 ∧ x + 267 ≤ z + 495) := by
              have h1 := c.ox 266 (by omega) (by omega)
              have h2 := c.ox 267 (by omega) (by omega)
              exact ⟨fun q => by have := r.ow (x + 266) (by omega); omega, fun q => by have := r.ow (x + 267) (by omega); omega⟩
            have sT : ∀ a, z + 474 ≤ a → a ≤ z + 495 → sm hC gE a := fun a h1 h2 => ⟨by rw [T1.K], by rw [T1.L], T1.I (by omega), T1.J (by omega), by rw [T1.R]⟩
            have ko : hK gE (z + 495) = 102 := by rw [T1.K]; exact g.2.2.1
            have lo : hL gE (z + 495) = 1 := by rw [T1.L]; exact g.2.2.2.1
            simp (disch := omega) only [i_lit, i_neg, i_add, i_sub, i_mul, i_ofNat, i_div, i_le, i_lt, i_eq, i_ix, i_inb, i_max, i_min, e_rem, j_lit, j_i, Int.reduceToNat, Int.reduceAdd, Int.reduceSub, Int.reduceMul, Int.reduceNeg, Int.reduceLT, Int.reduceLE, Int.reduceEq, gd_t, gd_T, ↓bd_m, ↓lh_t, ↓on_m, ↓ec_m, ↓reduceIte, if_true, if_false, true_and, and_true, false_and, and_false, true_or, or_true, false_or, or_false, Bool.false_eq_true, b2i_0, b2i_1, bl_0, bl_1, bl_b2, not_true_eq_false, not_false_eq_true, F_X0_story, F_X1_story, B_X0_story_16, F_X8_story, B_X8_story_37, B_X8_story_40, cs.k, e2, there_t, tO, w7, Y.size, w1, n10F, k1, ko, lo, ts0.k, ts0.r1, ts0.k1, ts0.l1, ts0.r2, ts0.k2, ts0.l2, ts0.r3, ts0.k3, ts0.l3, ts0.r4, ts0.k4, ts0.l4, ts0.r5, ts0.k5, ts0.l5, ts0.r6, ts0.k6, ts0.l6, ts0.r7, ts0.k7, ts0.l7, ts0.r8, ts0.k8, ts0.l8, ts0.r9, ts0.k9, ts0.l9, ts0.r10, ts0.k10, ts0.l10, ts0.r11, ts0.k11, ts0.l11, ts0.r12, ts0.k12, ts0.l12, ts0.r13, ts0.k13, ts0.l13, ts0.r14, ts0.k14, ts0.l14, ts0.r15, ts0.k15, ts0.l15, ts0.r16, ts0.k16, ts0.l16, ts0.r17, ts0.k17, ts0.l17, ts0.r18, ts0.k18, ts0.l18, ts0.r19, ts0.k19, ts0.l19, ts0.r20, ts0.k20, ts0.l20, e1, e3, qF, hK_wI, hL_wI, hR_wI, hI5, i19, t21, kT, Int.toNat_natCast]
            refine Ok2.some ⟨⟨?_, fun _ => ?_⟩, FCown sT (by rw [T1.1]; omega) (by rw [T1.2.1]; omega) (by rw [T1.2.2.1]; omega) _ _, (FT.thr _ _ _ _).trans (T2.mono (fun a q => by omega)), ⟨oE, xE, τE, υE, eE, elE, lwE, rE.outk (by rw [T1.K]; exact g.2.2.2.2) _ _⟩⟩
            · show _ = hI gTE m 5
              rw [T2.I (by omega), hI5]
            · show hJ (wJ _ _ _ _) _ _ = _
              rw [hJ_wJ, if_pos ⟨rfl, rfl⟩]
              rfl
          · rw [bP_f q5] at w1
            have kT : G_X8_story_62 (wI hT m 5 (iI 0)) m (iI s) (iI t) (iI 0) = some (iI 0, wI hT m 5 (iI 0)) := stT Z1 _ (E := fun X => X = some (iI 0, wI hT m 5 (iI 0))) (fun u => absurd u q5) (fun _ => rfl)
            simp (disch := omega) only [i_lit, i_neg, i_add, i_sub, i_mul, i_ofNat, i_div, i_le, i_lt, i_eq, i_ix, i_inb, i_max, i_min, e_rem, j_lit, j_i, Int.reduceToNat, Int.reduceAdd, Int.reduceSub, Int.reduceMul, Int.reduceNeg, Int.reduceLT, Int.reduceLE, Int.reduceEq, gd_t, gd_T, ↓bd_m, ↓lh_t, ↓on_m, ↓ec_m, ↓reduceIte, if_true, if_false, true_and, and_true, false_and, and_false, true_or, or_true, false_or, or_false, Bool.false_eq_true, b2i_0, b2i_1, bl_0, bl_1, bl_b2, not_true_eq_false, not_false_eq_true, F_X0_story, F_X1_story, B_X1_story_34, B_X0_story_16, F_X8_story, B_X8_story_37, B_X8_story_40, cs.k, e2, there_t, tO, w7, Y.size, w1, g.2.2.1, g.2.2.2.1, ts0.k, ts0.r1, ts0.k1, ts0.l1, ts0.r2, ts0.k2, ts0.l2, ts0.r3, ts0.k3, ts0.l3, ts0.r4, ts0.k4, ts0.l4, ts0.r5, ts0.k5, ts0.l5, ts0.r6, ts0.k6, ts0.l6, ts0.r7, ts0.k7, ts0.l7, ts0.r8, ts0.k8, ts0.l8, ts0.r9, ts0.k9, ts0.l9, ts0.r10, ts0.k10, ts0.l10, ts0.r11, ts0.k11, ts0.l11, ts0.r12, ts0.k12, ts0.l12, ts0.r13, ts0.k13, ts0.l13, ts0.r14, ts0.k14, ts0.l14, ts0.r15, ts0.k15, ts0.l15, ts0.r16, ts0.k16, ts0.l16, ts0.r17, ts0.k17, ts0.l17, ts0.r18, ts0.k18, ts0.l18, ts0.r19, ts0.k19, ts0.l19, ts0.r20, ts0.k20, ts0.l20, e1, e3, qF, hK_wI, hL_wI, hR_wI, hI5, i19, t21, kT, Int.toNat_natCast]
            exact Ok2.some no
        · have t21 : ((n : Int) = 21) = False := eq_false (by omega)
          simp (disch := omega) only [i_lit, i_neg, i_add, i_sub, i_mul, i_ofNat, i_div, i_le, i_lt, i_eq, i_ix, i_inb, i_max, i_min, e_rem, j_lit, j_i, Int.reduceToNat, Int.reduceAdd, Int.reduceSub, Int.reduceMul, Int.reduceNeg, Int.reduceLT, Int.reduceLE, Int.reduceEq, gd_t, gd_T, ↓bd_m, ↓lh_t, ↓on_m, ↓ec_m, ↓reduceIte, if_true, if_false, true_and, and_true, false_and, and_false, true_or, or_true, false_or, or_false, Bool.false_eq_true, b2i_0, b2i_1, bl_0, bl_1, bl_b2, not_true_eq_false, not_false_eq_true, F_X0_story, F_X1_story, B_X1_story_34, B_X0_story_16, F_X8_story, B_X8_story_37, B_X8_story_40, B_X8_story_58, cs.k, e2, there_t, tO, w7, Y.size, g.2.2.1, g.2.2.2.1, ts0.k, ts0.r1, ts0.k1, ts0.l1, ts0.r2, ts0.k2, ts0.l2, ts0.r3, ts0.k3, ts0.l3, ts0.r4, ts0.k4, ts0.l4, ts0.r5, ts0.k5, ts0.l5, ts0.r6, ts0.k6, ts0.l6, ts0.r7, ts0.k7, ts0.l7, ts0.r8, ts0.k8, ts0.l8, ts0.r9, ts0.k9, ts0.l9, ts0.r10, ts0.k10, ts0.l10, ts0.r11, ts0.k11, ts0.l11, ts0.r12, ts0.k12, ts0.l12, ts0.r13, ts0.k13, ts0.l13, ts0.r14, ts0.k14, ts0.l14, ts0.r15, ts0.k15, ts0.l15, ts0.r16, ts0.k16, ts0.l16, ts0.r17, ts0.k17, ts0.l17, ts0.r18, ts0.k18, ts0.l18, ts0.r19, ts0.k19, ts0.l19, ts0.r20, ts0.k20, ts0.l20, e1, e3, qF, hK_wI, hL_wI, hR_wI, hI5, i19, t21, Int.toNat_natCast]
          exact Ok2.some no
    · rw [b2_f q2] at e3
      simp (disch := omega) only [i_lit, i_neg, i_add, i_sub, i_mul, i_ofNat, i_div, i_le, i_lt, i_eq, i_ix, i_inb, i_max, i_min, e_rem, j_lit, j_i, Int.reduceToNat, Int.reduceAdd, Int.reduceSub, Int.reduceMul, Int.reduceNeg, Int.reduceLT, Int.reduceLE, Int.reduceEq, gd_t, gd_T, ↓bd_m, ↓lh_t, ↓on_m, ↓ec_m, ↓reduceIte, if_true, if_false, true_and, and_true, false_and, and_false, true_or, or_true, false_or, or_false, Bool.false_eq_true, b2i_0, b2i_1, bl_0, bl_1, bl_b2, not_true_eq_false, not_false_eq_true, F_X0_story, F_X1_story, B_X0_story_20, F_X8_story, B_X8_story_18, B_X8_story_37, B_X8_story_40, B_X8_story_58, cs.k, e2, there_t, trayOf_f hC z gr ht q2, ts0.k, e1, e3, hK_wI, hI5, Nat.reduceEqDiff]
      exact Ok2.some (bad _ _ (by decide) (FC.nw0 r) (r.nw0 0 6))
  · rw [b2_f q1] at e1 e2
    simp (disch := omega) only [i_lit, i_neg, i_add, i_sub, i_mul, i_ofNat, i_div, i_le, i_lt, i_eq, i_ix, i_inb, i_max, i_min, e_rem, j_lit, j_i, Int.reduceToNat, Int.reduceAdd, Int.reduceSub, Int.reduceMul, Int.reduceNeg, Int.reduceLT, Int.reduceLE, Int.reduceEq, gd_t, gd_T, ↓bd_m, ↓lh_t, ↓on_m, ↓ec_m, ↓reduceIte, if_true, if_false, true_and, and_true, false_and, and_false, true_or, or_true, false_or, or_false, Bool.false_eq_true, b2i_0, b2i_1, bl_0, bl_1, bl_b2, not_true_eq_false, not_false_eq_true, F_X0_story, F_X1_story, B_X0_story_20, F_X8_story, B_X8_story_18, B_X8_story_37, B_X8_story_40, B_X8_story_58, cs.k, e2, there_f gr, ts0.k, e1, hK_wI, hI5, Nat.reduceEqDiff]
    exact Ok2.some (bad _ _ (by decide) (FC.nw0 r) (r.nw0 0 6))
