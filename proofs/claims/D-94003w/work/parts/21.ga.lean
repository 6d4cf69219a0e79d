/-! PURE GA: the games' tables -/
set_option maxRecDepth 100000
def GP (z a : Nat) : Prop := a = z + 275 ∨ (z + 277 ≤ a ∧ a ≤ z + 284) ∨ (z + 286 ≤ a ∧ a ≤ z + 293)
theorem GP.scr {z a : Nat} (h : GP z a) : scr z a := by
  unfold GP at h
  show (z + 273 ≤ a ∧ a ≤ z + 438) ∨ (z + 444 ≤ a ∧ a ≤ z + 473)
  omega
/-- prices at hand with both levels set -/
def prS (τ : Nat → Int) (a b i j s : Nat) : Int := if s = b then τ (52 + j) else if s = a then τ (52 + i) else τ (12 + s)
def gnF (τ p : Nat → Int) (s k : Nat) (b : Int) : Int := if whS τ p k = (s : Int) then b + τ (28 + 4 * k) * (p s - τ (8 + s)) else b
def gnS (τ p : Nat → Int) (s : Nat) : Int := itr (gnF τ p s) (τ 1).toNat 0 0
theorem prS_rng {τ : Nat → Int} (rg : RG τ) {a b i j : Nat} (hi : (i : Int) < τ 3) (hj : (j : Int) < τ 3) : ∀ s : Nat, (s : Int) < τ 0 → 0 ≤ prS τ a b i j s ∧ prS τ a b i j s ≤ 99 := by
  intro s hs
  have h1 := rg.l
  have h2 := rg.n
  unfold prS
  split
  · exact rg.lev j (by omega)
  · split
    · exact rg.lev i (by omega)
    · exact rg.price s (by omega)
theorem gn_mul {τ p : Nat → Int} (rg : RG τ) (hp : ∀ s : Nat, (s : Int) < τ 0 → 0 ≤ p s ∧ p s ≤ 99) {s k : Nat} (hs : (s : Int) < τ 0) (hk : (k : Int) < τ 1) : -9801 ≤ τ (28 + 4 * k) * (p s - τ (8 + s)) ∧ τ (28 + 4 * k) * (p s - τ (8 + s)) ≤ 9801 := by
  have h0 := rg.n
  have h1 := (rg.drv k hk).1
  have h2 := hp s hs
  have h3 := rg.cost s (by omega)
  have := Int.mul_le_mul_of_nonneg_left (show p s - τ (8 + s) ≤ 99 by omega) (show 0 ≤ τ (28 + 4 * k) by omega)
  have := Int.mul_le_mul_of_nonneg_left (show -99 ≤ p s - τ (8 + s) by omega) (show 0 ≤ τ (28 + 4 * k) by omega)
  omega
theorem gn_rng {τ p : Nat → Int} (rg : RG τ) (hp : ∀ s : Nat, (s : Int) < τ 0 → 0 ≤ p s ∧ p s ≤ 99) {s : Nat} (hs : (s : Int) < τ 0) : ∀ k : Nat, (k : Int) ≤ τ 1 → -9801 * (k : Int) ≤ itr (gnF τ p s) k 0 0 ∧ itr (gnF τ p s) k 0 0 ≤ 9801 * (k : Int) := by
  intro k
  induction k with
  | zero => intro _; exact ⟨by simp [itr], by simp [itr]⟩
  | succ k ih =>
    intro hk
    have h1 := ih (by omega)
    have h2 := gn_mul rg hp hs (k := k) (by omega)
    rw [itr_succ, Nat.zero_add]
    unfold gnF at h1 ⊢
    split
    · push_cast; omega
    · push_cast; omega
theorem profit_eq {h : AH} {m : Nat} {τ : Nat → Int} (t : TN h m τ) (rg : RG τ) {p : Nat → Int} (hP3 : ∀ i : Nat, (i : Int) < τ 0 → hI h (m + 10) i = iI (p i)) (hp : ∀ i : Nat, (i : Int) < τ 0 → 0 ≤ p i ∧ p i ≤ 99) {s : Nat} (hs : (s : Int) < τ 0) : F_X8_profit h m (iI s) = some (iI (gnS τ p s)) := by
  have hn4 := rg.n
  have hd6 := rg.d
  have ts := t.s
  have ti := t.i
  have key : Ok1 (F_X8_profit h m (iI s)) (fun r => r = iI (gnS τ p s)) := by
    unfold F_X8_profit G_X8_profit_4
    refine lp_ok (fun st j => ∃ k : Nat, st = (m, iI s, iI (itr (gnF τ p s) k 0 0), iI k) ∧ (k : Int) ≤ τ 1 ∧ j = (τ 1 - k).toNat) ?_ fuel (τ 1).toNat _ ⟨0, rfl, by omega, by simp⟩ (lt_fuel (by omega))
    rintro self st j ⟨k, rfl, h1, rfl⟩ ih
    unfold L_X8_profit_4 B_X8_profit_4 B_X8_profit_54 B_X8_profit_60
    by_cases ho : τ 1 ≤ (k : Int)
    · simp (disch := omega) only [i_lit, i_neg, i_add, i_sub, i_mul, i_ofNat, i_div, i_le, i_lt, i_eq, i_ix, i_inb, i_max, i_min, e_rem, j_lit, j_i, Int.reduceToNat, Int.reduceAdd, Int.reduceSub, Int.reduceMul, Int.reduceNeg, Int.reduceLT, Int.reduceLE, Int.reduceEq, gd_t, gd_T, ↓bd_m, ↓lh_t, ↓on_m, ↓ec_m, ↓reduceIte, if_true, if_false, true_and, and_true, false_and, and_false, true_or, or_true, false_or, or_false, Bool.false_eq_true, b2i_0, b2i_1, bl_0, bl_1, bl_b2, not_true_eq_false, not_false_eq_true, ts.k, ts.r1, ts.k1, ts.l1, ts.r2, ts.k2, ts.l2, ts.r3, ts.k3, ts.l3, ts.r4, ts.k4, ts.l4, ts.r5, ts.k5, ts.l5, ts.r6, ts.k6, ts.l6, ts.r7, ts.k7, ts.l7, ts.r8, ts.k8, ts.l8, ts.r9, ts.k9, ts.l9, ts.r10, ts.k10, ts.l10, ts.r11, ts.k11, ts.l11, ts.r12, ts.k12, ts.l12, ts.r13, ts.k13, ts.l13, ts.r14, ts.k14, ts.l14, ts.r15, ts.k15, ts.l15, ts.r16, ts.k16, ts.l16, ts.r17, ts.k17, ts.l17, ts.r18, ts.k18, ts.l18, ts.r19, ts.k19, ts.l19, ts.r20, ts.k20, ts.l20, ti, ho]
      refine Ok1.some ?_
      unfold gnS
      rw [show (τ 1).toNat = k by omega]
    · have e1 := where_eq t rg hP3 hp (k := k) (by omega)
      have wr := whS_rng (p := p) rg (k := k) (by omega)
      have ih' := ih _ (τ 1 - ((k + 1 : Nat) : Int)).toNat (by omega) ⟨k + 1, rfl, by omega, rfl⟩
      rw [itr_succ, Nat.zero_add, show (((k + 1 : Nat)) : Int) = (k : Int) + 1 by omega] at ih'
      unfold gnF at ih' ⊢
      have x1 : (28 + 4 * (k : Int)).toNat = 28 + 4 * k := by omega
      have x2 : (8 + (s : Int)).toNat = 8 + s := by omega
      by_cases q : whS τ p k = (s : Int)
      · have v := hP3 s hs
        simp (disch := omega) only [i_lit, i_neg, i_add, i_sub, i_mul, i_ofNat, i_div, i_le, i_lt, i_eq, i_ix, i_inb, i_max, i_min, e_rem, j_lit, j_i, Int.reduceToNat, Int.reduceAdd, Int.reduceSub, Int.reduceMul, Int.reduceNeg, Int.reduceLT, Int.reduceLE, Int.reduceEq, gd_t, gd_T, ↓bd_m, ↓lh_t, ↓on_m, ↓ec_m, ↓reduceIte, if_true, if_false, true_and, and_true, false_and, and_false, true_or, or_true, false_or, or_false, Bool.false_eq_true, b2i_0, b2i_1, bl_0, bl_1, bl_b2, not_true_eq_false, not_false_eq_true, q] at ih'
        simp (disch := omega) only [i_lit, i_neg, i_add, i_sub, i_mul, i_ofNat, i_div, i_le, i_lt, i_eq, i_ix, i_inb, i_max, i_min, e_rem, j_lit, j_i, Int.reduceToNat, Int.reduceAdd, Int.reduceSub, Int.reduceMul, Int.reduceNeg, Int.reduceLT, Int.reduceLE, Int.reduceEq, gd_t, gd_T, ↓bd_m, ↓lh_t, ↓on_m, ↓ec_m, ↓reduceIte, if_true, if_false, true_and, and_true, false_and, and_false, true_or, or_true, false_or, or_false, Bool.false_eq_true, b2i_0, b2i_1, bl_0, bl_1, bl_b2, not_true_eq_false, not_false_eq_true, ts.k, ts.r1, ts.k1, ts.l1, ts.r2, ts.k2, ts.l2, ts.r3, ts.k3, ts.l3, ts.r4, ts.k4, ts.l4, ts.r5, ts.k5, ts.l5, ts.r6, ts.k6, ts.l6, ts.r7, ts.k7, ts.l7, ts.r8, ts.k8, ts.l8, ts.r9, ts.k9, ts.l9, ts.r10, ts.k10, ts.l10, ts.r11, ts.k11, ts.l11, ts.r12, ts.k12, ts.l12, ts.r13, ts.k13, ts.l13, ts.r14, ts.k14, ts.l14, ts.r15, ts.k15, ts.l15, ts.r16, ts.k16, ts.l16, ts.r17, ts.k17, ts.l17, ts.r18, ts.k18, ts.l18, ts.r19, ts.k19, ts.l19, ts.r20, ts.k20, ts.l20, ti, ho, e1, q, x1, x2, v, Int.toNat_natCast]
        exact ih'
      · simp (disch := omega) only [i_lit, i_neg, i_add, i_sub, i_mul, i_ofNat, i_div, i_le, i_lt, i_eq, i_ix, i_inb, i_max, i_min, e_rem, j_lit, j_i, Int.reduceToNat, Int.reduceAdd, Int.reduceSub, Int.reduceMul, Int.reduceNeg, Int.reduceLT, Int.reduceLE, Int.reduceEq, gd_t, gd_T, ↓bd_m, ↓lh_t, ↓on_m, ↓ec_m, ↓reduceIte, if_true, if_false, true_and, and_true, false_and, and_false, true_or, or_true, false_or, or_false, Bool.false_eq_true, b2i_0, b2i_1, bl_0, bl_1, bl_b2, not_true_eq_false, not_false_eq_true, q] at ih'
        simp (disch := omega) only [i_lit, i_neg, i_add, i_sub, i_mul, i_ofNat, i_div, i_le, i_lt, i_eq, i_ix, i_inb, i_max, i_min, e_rem, j_lit, j_i, Int.reduceToNat, Int.reduceAdd, Int.reduceSub, Int.reduceMul, Int.reduceNeg, Int.reduceLT, Int.reduceLE, Int.reduceEq, gd_t, gd_T, ↓bd_m, ↓lh_t, ↓on_m, ↓ec_m, ↓reduceIte, if_true, if_false, true_and, and_true, false_and, and_false, true_or, or_true, false_or, or_false, Bool.false_eq_true, b2i_0, b2i_1, bl_0, bl_1, bl_b2, not_true_eq_false, not_false_eq_true, ts.k, ts.r1, ts.k1, ts.l1, ts.r2, ts.k2, ts.l2, ts.r3, ts.k3, ts.l3, ts.r4, ts.k4, ts.l4, ts.r5, ts.k5, ts.l5, ts.r6, ts.k6, ts.l6, ts.r7, ts.k7, ts.l7, ts.r8, ts.k8, ts.l8, ts.r9, ts.k9, ts.l9, ts.r10, ts.k10, ts.l10, ts.r11, ts.k11, ts.l11, ts.r12, ts.k12, ts.l12, ts.r13, ts.k13, ts.l13, ts.r14, ts.k14, ts.l14, ts.r15, ts.k15, ts.l15, ts.r16, ts.k16, ts.l16, ts.r17, ts.k17, ts.l17, ts.r18, ts.k18, ts.l18, ts.r19, ts.k19, ts.l19, ts.r20, ts.k20, ts.l20, ti, ho, e1, q]
        exact ih'
  obtain ⟨r, h1, h2⟩ := key
  rw [h1, h2]
theorem lays_k {o : Nat → Nat} {hC hT : AH} {z m x : Nat} {τ : Nat → Int} {υ : Nat → Int64} {e : Nat → Nat} {el : Nat → Nat → Nat} {lw : Nat} (r : RL o hC hT z m x τ υ e el lw) (gm : ∀ a, z + 474 ≤ a → a ≤ z + 495 → ¬ imK (hK hC a)) {a b i j : Nat} (ha : (a : Int) < τ 0) (hb : (b : Int) < τ 0) (hi : (i : Int) < τ 3) (hj : (j : Int) < τ 3) {kh6 : AH → Nat → Int32 → Int32 → Int32 → Option AH} {kh20 : AH → Nat → Int32 → Int32 → Int32 → Int32 → Option AH} {Q : AH → Prop} {g : AH} (T : tf (GP z) hC g) (pr : ∀ s : Nat, (s : Int) < τ 0 → hI g (z + 275) s = iI (prS τ a b i j s)) (zA : hI g (z + 277 + i) j = iI 0) (zB : hI g (z + 286 + i) j = iI 0)
    (H : ∀ g', tf (GP z) hC g' → hI g' (z + 275) = hI g (z + 275) → (∀ c k, ¬ (c = z + 277 + i ∧ k = j) → ¬ (c = z + 286 + i ∧ k = j) → hI g' c k = hI g c k) → hI g' (z + 277 + i) j = iI (gnS τ (prS τ a b i j) a) → hI g' (z + 286 + i) j = iI (gnS τ (prS τ a b i j) b) → Ok1 (kh20 g' z (iI a) (iI b) (iI i) (iI (j + 1))) Q) :
    Ok1 (G_X1_laysGame_86 g kh6 kh20 z (iI a) (iI b) (iI i) (iI j) (iI 0)) Q := by
  have rg := r.c.rg
  have hn4 := rg.n
  have hd6 := rg.d
  have hl8 := rg.l
  have hp := prS_rng rg (a := a) (b := b) hi hj
  unfold G_X1_laysGame_86
  refine lp_ok (fun st n => ∃ (g' : AH) (k : Nat), st = (g', z, iI a, iI b, iI i, iI j, iI k) ∧ (k : Int) ≤ τ 1 ∧ n = (τ 1 - k).toNat ∧ tf (GP z) hC g' ∧ hI g' (z + 275) = hI g (z + 275) ∧ (∀ c k, ¬ (c = z + 277 + i ∧ k = j) → ¬ (c = z + 286 + i ∧ k = j) → hI g' c k = hI g c k) ∧ hI g' (z + 277 + i) j = iI (itr (gnF τ (prS τ a b i j) a) k 0 0) ∧ hI g' (z + 286 + i) j = iI (itr (gnF τ (prS τ a b i j) b) k 0 0)) ?_ fuel (τ 1).toNat _ ⟨g, 0, rfl, by omega, by simp, T, rfl, fun _ _ _ _ => rfl, zA, zB⟩ (lt_fuel (by omega))
  rintro self st n ⟨g', k, rfl, h1, rfl, T1, p1, f1, vA, vB⟩ ih
  have r1 := r.scC gm (cS.tf T1 (fun a q => q.scr))
  have c1 := r1.c
  have cs1 := r1.cs
  have hz1 := r1.hz
  have wA := cs1.w276 i (by omega)
  have wB := cs1.w285 i (by omega)
  unfold L_X1_laysGame_86
  by_cases ho : τ 1 ≤ (k : Int)
  · have e2 := H g' T1 p1 f1 (by rw [vA]; unfold gnS; rw [show (τ 1).toNat = k by omega]) (by rw [vB]; unfold gnS; rw [show (τ 1).toNat = k by omega])
    simp (disch := omega) only [i_lit, i_neg, i_add, i_sub, i_mul, i_ofNat, i_div, i_le, i_lt, i_eq, i_ix, i_inb, i_max, i_min, e_rem, j_lit, j_i, Int.reduceToNat, Int.reduceAdd, Int.reduceSub, Int.reduceMul, Int.reduceNeg, Int.reduceLT, Int.reduceLE, Int.reduceEq, gd_t, gd_T, ↓bd_m, ↓on_m, ↓ec_m, ↓reduceIte, if_true, if_false, true_and, and_true, false_and, and_false, true_or, or_true, false_or, or_false, Bool.false_eq_true, b2i_0, b2i_1, bl_0, bl_1, bl_b2, not_true_eq_false, not_false_eq_true, B_X1_laysGame_86, B_X1_laysGame_218, cs1.k, hz1, many_eq c1, c1.k, c1.i9, c1.i10, c1.r0, c1.r1, c1.r2, c1.r3, c1.r4, c1.r5, c1.r6, c1.r7, c1.r8, c1.a0.k, c1.a1.k, c1.a2.k, c1.a3.k, c1.a4.k, size_eq c1.a0, size_eq c1.a1, size_eq c1.a2, size_eq c1.a3, size_eq c1.a4, c1.kb, c1.lb, c1.kl, c1.ll, c1.kw, c1.lw_, c1.kL, c1.l, ho]
    exact e2
  · obtain ⟨k1, k2, k3, -⟩ := c1.dr k (by omega)
    have k4 := get_eq c1.a1 (i := (k : Int)) (by omega) k1
    have e4 := goesTo_eq c1 cs1 hz1 (P := z + 275) (p := prS τ a b i j) cs1.k275 cs1.l275 (fun s hs => by rw [p1]; exact pr s hs) hp (k := k) (by omega)
    have wr := whS_rng (p := prS τ a b i j) rg (k := k) (by omega)
    obtain ⟨w, hw⟩ := Int.eq_ofNat_of_zero_le wr.1
    rw [hw] at e4 wr
    obtain ⟨s1, s2⟩ := stat_at c1 (s := (w : Int)) (by omega)
    have pw : hI g' (z + 275) w = iI (prS τ a b i j w) := by rw [p1]; exact pr w (by omega)
    have i0 := s2.i0
    rw [Int.toNat_natCast] at s1 s2 i0
    have ih' := fun g2 (x1 : tf (GP z) hC g2) x2 x3 x4 x5 => ih (g2, z, iI a, iI b, iI i, iI j, iI ((k + 1 : Nat) : Int)) (τ 1 - ((k + 1 : Nat) : Int)).toNat (by omega) ⟨g2, k + 1, rfl, by omega, rfl, x1, x2, x3, x4, x5⟩
    rw [show (((k + 1 : Nat)) : Int) = (k : Int) + 1 by omega] at ih'
    have GA : GP z (z + 277 + i) := by unfold GP; omega
    have GB : GP z (z + 286 + i) := by unfold GP; omega
    have nAB : z + 277 + i ≠ z + 286 + i := by omega
    have eA : iI (itr (gnF τ (prS τ a b i j) a) (k + 1) 0 0) = iI (itr (gnF τ (prS τ a b i j) a) k 0 0) + (if (w : Int) = (a : Int) then iI (τ (28 + 4 * k) * (prS τ a b i j w - τ (8 + w))) else iI 0) := by
      rw [itr_succ, Nat.zero_add]
      unfold gnF
      rw [hw]
      by_cases q : (w : Int) = (a : Int)
      · have q' : w = a := by omega
        subst q'
        rw [if_pos rfl, if_pos rfl, i_add]
      · rw [if_neg q, if_neg q, i_add, Int.add_zero]
    have eB : iI (itr (gnF τ (prS τ a b i j) b) (k + 1) 0 0) = iI (itr (gnF τ (prS τ a b i j) b) k 0 0) + (if (w : Int) = (b : Int) then iI (τ (28 + 4 * k) * (prS τ a b i j w - τ (8 + w))) else iI 0) := by
      rw [itr_succ, Nat.zero_add]
      unfold gnF
      rw [hw]
      by_cases q : (w : Int) = (b : Int)
      · have q' : w = b := by omega
        subst q'
        rw [if_pos rfl, if_pos rfl, i_add]
      · rw [if_neg q, if_neg q, i_add, Int.add_zero]
    have tail : ∀ g2, tf (GP z) hC g2 → hI g2 (z + 275) = hI g (z + 275) → (∀ c k, ¬ (c = z + 277 + i ∧ k = j) → ¬ (c = z + 286 + i ∧ k = j) → hI g2 c k = hI g c k) → hI g2 (z + 277 + i) j = iI (itr (gnF τ (prS τ a b i j) a) (k + 1) 0 0) → hI g2 (z + 286 + i) j = iI (itr (gnF τ (prS τ a b i j) b) k 0 0) → Ok1 (B_X1_laysGame_188 g2 kh6 kh20 (fun h a0 x1 x2 x3 x4 x5 => self (h, a0, x1, x2, x3, x4, x5)) z (iI a) (iI b) (iI i) (iI j) (iI k) (iI w) (iI (τ (28 + 4 * k) * (prS τ a b i j w - τ (8 + w))))) Q := by
      intro g2 T2 p2 f2 vA2 vB2
      have r2 := r.scC gm (cS.tf T2 (fun a q => q.scr))
      have c2 := r2.c
      have cs2 := r2.cs
      have hz2 := r2.hz
      have wB2 := cs2.w285 i (by omega)
      have fin : ∀ g3, tf (GP z) hC g3 → hI g3 (z + 286 + i) j = hI g2 (z + 286 + i) j + (if (w : Int) = (b : Int) then iI (τ (28 + 4 * k) * (prS τ a b i j w - τ (8 + w))) else iI 0) → (∀ c l, ¬ (c = z + 286 + i ∧ l = j) → hI g3 c l = hI g2 c l) → Ok1 (self (g3, z, iI a, iI b, iI i, iI j, iI (k + 1))) Q := fun g3 T3 u3 d3 => ih' g3 T3 (by rw [← p2]; funext l; exact d3 _ _ (by omega)) (fun c l n1 n2 => by rw [d3 c l n2]; exact f2 c l n1 n2) (by rw [d3 _ _ (by omega)]; exact vA2) (by rw [u3, vB2, eB])
      by_cases qb : (w : Int) = (b : Int)
      · have qT : ((w : Int) = (b : Int)) = True := eq_true qb
        rw [if_pos qb] at fin
        simp (disch := omega) only [i_lit, i_neg, i_add, i_sub, i_mul, i_ofNat, i_div, i_le, i_lt, i_eq, i_ix, i_inb, i_max, i_min, e_rem, j_lit, j_i, Int.reduceToNat, Int.reduceAdd, Int.reduceSub, Int.reduceMul, Int.reduceNeg, Int.reduceLT, Int.reduceLE, Int.reduceEq, gd_t, gd_T, ↓bd_m, ↓on_m, ↓ec_m, ↓reduceIte, if_true, if_false, true_and, and_true, false_and, and_false, true_or, or_true, false_or, or_false, Bool.false_eq_true, b2i_0, b2i_1, bl_0, bl_1, bl_b2, not_true_eq_false, not_false_eq_true, B_X1_laysGame_188, B_X1_laysGame_210, cs2.k, cs2.r285, cs2.k285, cs2.l285, wB2.1, wB2.2.1, wB2.2.2, qT, Int.toNat_natCast]
        refine fw2 T2 GB (fun g3 T3 u3 d3 _ => ?_)
        simp (disch := omega) only [i_lit, i_neg, i_add, i_sub, i_mul, i_ofNat, i_div, i_le, i_lt, i_eq, i_ix, i_inb, i_max, i_min, e_rem, j_lit, j_i, Int.reduceToNat, Int.reduceAdd, Int.reduceSub, Int.reduceMul, Int.reduceNeg, Int.reduceLT, Int.reduceLE, Int.reduceEq, gd_t, gd_T, ↓bd_m, ↓on_m, ↓ec_m, ↓reduceIte, if_true, if_false, true_and, and_true, false_and, and_false, true_or, or_true, false_or, or_false, Bool.false_eq_true, b2i_0, b2i_1, bl_0, bl_1, bl_b2, not_true_eq_false, not_false_eq_true, B_X1_laysGame_212]
        exact fin g3 T3 u3 d3
      · have qT : ((w : Int) = (b : Int)) = False := eq_false qb
        rw [if_neg qb] at fin
        simp (disch := omega) only [i_lit, i_neg, i_add, i_sub, i_mul, i_ofNat, i_div, i_le, i_lt, i_eq, i_ix, i_inb, i_max, i_min, e_rem, j_lit, j_i, Int.reduceToNat, Int.reduceAdd, Int.reduceSub, Int.reduceMul, Int.reduceNeg, Int.reduceLT, Int.reduceLE, Int.reduceEq, gd_t, gd_T, ↓bd_m, ↓on_m, ↓ec_m, ↓reduceIte, if_true, if_false, true_and, and_true, false_and, and_false, true_or, or_true, false_or, or_false, Bool.false_eq_true, b2i_0, b2i_1, bl_0, bl_1, bl_b2, not_true_eq_false, not_false_eq_true, B_X1_laysGame_188, B_X1_laysGame_210, cs2.k, cs2.r285, cs2.k285, cs2.l285, wB2.1, wB2.2.1, wB2.2.2, qT, Int.toNat_natCast]
        refine fw2 T2 GB (fun g3 T3 u3 d3 _ => ?_)
        simp (disch := omega) only [i_lit, i_neg, i_add, i_sub, i_mul, i_ofNat, i_div, i_le, i_lt, i_eq, i_ix, i_inb, i_max, i_min, e_rem, j_lit, j_i, Int.reduceToNat, Int.reduceAdd, Int.reduceSub, Int.reduceMul, Int.reduceNeg, Int.reduceLT, Int.reduceLE, Int.reduceEq, gd_t, gd_T, ↓bd_m, ↓on_m, ↓ec_m, ↓reduceIte, if_true, if_false, true_and, and_true, false_and, and_false, true_or, or_true, false_or, or_false, Bool.false_eq_true, b2i_0, b2i_1, bl_0, bl_1, bl_b2, not_true_eq_false, not_false_eq_true, B_X1_laysGame_212]
        exact fin g3 T3 u3 d3
    have fin : ∀ g2, tf (GP z) hC g2 → hI g2 (z + 277 + i) j = hI g' (z + 277 + i) j + (if (w : Int) = (a : Int) then iI (τ (28 + 4 * k) * (prS τ a b i j w - τ (8 + w))) else iI 0) → (∀ c l, ¬ (c = z + 277 + i ∧ l = j) → hI g2 c l = hI g' c l) → Ok1 (B_X1_laysGame_188 g2 kh6 kh20 (fun h a0 x1 x2 x3 x4 x5 => self (h, a0, x1, x2, x3, x4, x5)) z (iI a) (iI b) (iI i) (iI j) (iI k) (iI w) (iI (τ (28 + 4 * k) * (prS τ a b i j w - τ (8 + w))))) Q := fun g2 T2 u2 d2 => tail g2 T2 (by rw [← p1]; funext l; exact d2 _ _ (by omega)) (fun c l n1 n2 => by rw [d2 c l n1]; exact f1 c l n1 n2) (by rw [u2, vA, eA]) (by rw [d2 _ _ (by omega)]; exact vB)
    by_cases qa : (w : Int) = (a : Int)
    · have qT : ((w : Int) = (a : Int)) = True := eq_true qa
      rw [if_pos qa] at fin
      simp (disch := omega) only [i_lit, i_neg, i_add, i_sub, i_mul, i_ofNat, i_div, i_le, i_lt, i_eq, i_ix, i_inb, i_max, i_min, e_rem, j_lit, j_i, Int.reduceToNat, Int.reduceAdd, Int.reduceSub, Int.reduceMul, Int.reduceNeg, Int.reduceLT, Int.reduceLE, Int.reduceEq, gd_t, gd_T, ↓bd_m, ↓on_m, ↓ec_m, ↓reduceIte, if_true, if_false, true_and, and_true, false_and, and_false, true_or, or_true, false_or, or_false, Bool.false_eq_true, b2i_0, b2i_1, bl_0, bl_1, bl_b2, not_true_eq_false, not_false_eq_true, B_X1_laysGame_86, B_X1_laysGame_186, cs1.k, hz1, many_eq c1, c1.k, c1.i9, c1.i10, c1.r0, c1.r1, c1.r2, c1.r3, c1.r4, c1.r5, c1.r6, c1.r7, c1.r8, c1.a0.k, c1.a1.k, c1.a2.k, c1.a3.k, c1.a4.k, size_eq c1.a0, size_eq c1.a1, size_eq c1.a2, size_eq c1.a3, size_eq c1.a4, c1.kb, c1.lb, c1.kl, c1.ll, c1.kw, c1.lw_, c1.kL, c1.l, ho, k4, k2, k3, e4, pw, s1, s2.k, i0, cs1.r275, cs1.k275, cs1.l275, cs1.r276, cs1.k276, cs1.l276, wA.1, wA.2.1, wA.2.2, qT, Int.toNat_natCast]
      exact fw2 T1 GA (fun g2 T2 u2 d2 _ => fin g2 T2 u2 d2)
    · have qT : ((w : Int) = (a : Int)) = False := eq_false qa
      rw [if_neg qa] at fin
      simp (disch := omega) only [i_lit, i_neg, i_add, i_sub, i_mul, i_ofNat, i_div, i_le, i_lt, i_eq, i_ix, i_inb, i_max, i_min, e_rem, j_lit, j_i, Int.reduceToNat, Int.reduceAdd, Int.reduceSub, Int.reduceMul, Int.reduceNeg, Int.reduceLT, Int.reduceLE, Int.reduceEq, gd_t, gd_T, ↓bd_m, ↓on_m, ↓ec_m, ↓reduceIte, if_true, if_false, true_and, and_true, false_and, and_false, true_or, or_true, false_or, or_false, Bool.false_eq_true, b2i_0, b2i_1, bl_0, bl_1, bl_b2, not_true_eq_false, not_false_eq_true, B_X1_laysGame_86, B_X1_laysGame_186, cs1.k, hz1, many_eq c1, c1.k, c1.i9, c1.i10, c1.r0, c1.r1, c1.r2, c1.r3, c1.r4, c1.r5, c1.r6, c1.r7, c1.r8, c1.a0.k, c1.a1.k, c1.a2.k, c1.a3.k, c1.a4.k, size_eq c1.a0, size_eq c1.a1, size_eq c1.a2, size_eq c1.a3, size_eq c1.a4, c1.kb, c1.lb, c1.kl, c1.ll, c1.kw, c1.lw_, c1.kL, c1.l, ho, k4, k2, k3, e4, pw, s1, s2.k, i0, cs1.r275, cs1.k275, cs1.l275, cs1.r276, cs1.k276, cs1.l276, wA.1, wA.2.1, wA.2.2, qT, Int.toNat_natCast]
      exact fw2 T1 GA (fun g2 T2 u2 d2 _ => fin g2 T2 u2 d2)
/-- the tables ahead of (i, j) are laid -/
def gtC (τ : Nat → Int) (z a b : Nat) (g : AH) (i j : Nat) : Prop := ∀ i' j' : Nat, (i' : Int) < τ 3 → (j' : Int) < τ 3 → (i' < i ∨ (i' = i ∧ j' < j)) → hI g (z + 277 + i') j' = iI (gnS τ (prS τ a b i' j') a) ∧ hI g (z + 286 + i') j' = iI (gnS τ (prS τ a b i' j') b)
theorem lays_eq {o : Nat → Nat} {hC hT : AH} {z m x : Nat} {τ : Nat → Int} {υ : Nat → Int64} {e : Nat → Nat} {el : Nat → Nat → Nat} {lw : Nat} (r : RL o hC hT z m x τ υ e el lw) (gm : ∀ a, z + 474 ≤ a → a ≤ z + 495 → ¬ imK (hK hC a)) {a b : Nat} (ha : (a : Int) < τ 0) (hb : (b : Int) < τ 0) (hab : a ≠ b) : ∃ h', F_X1_laysGame hC z (iI a) (iI b) = some h' ∧ tf (GP z) hC h' ∧ ∀ i j : Nat, (i : Int) < τ 3 → (j : Int) < τ 3 → hI h' (z + 277 + i) j = iI (gnS τ (prS τ a b i j) a) ∧ hI h' (z + 286 + i) j = iI (gnS τ (prS τ a b i j) b) := by
  have rg := r.c.rg
  have hn4 := rg.n
  have hl8 := rg.l
  have cs := r.cs
  have key : Ok1 (F_X1_laysGame hC z (iI a) (iI b)) (fun h' => tf (GP z) hC h' ∧ ∀ i j : Nat, (i : Int) < τ 3 → (j : Int) < τ 3 → hI h' (z + 277 + i) j = iI (gnS τ (prS τ a b i j) a) ∧ hI h' (z + 286 + i) j = iI (gnS τ (prS τ a b i j) b)) := by
    obtain ⟨g0, a1, a2, a3⟩ := asNow_eq r.c r.cs r.hz r.ow (by omega)
    have T0 : tf (GP z) hC g0 := a2.mono (fun a q => Or.inl q)
    unfold F_X1_laysGame
    simp (disch := omega) only [i_lit, i_neg, i_add, i_sub, i_mul, i_ofNat, i_div, i_le, i_lt, i_eq, i_ix, i_inb, i_max, i_min, e_rem, j_lit, j_i, Int.reduceToNat, Int.reduceAdd, Int.reduceSub, Int.reduceMul, Int.reduceNeg, Int.reduceLT, Int.reduceLE, Int.reduceEq, gd_t, gd_T, ↓bd_m, ↓on_m, ↓ec_m, ↓reduceIte, if_true, if_false, true_and, and_true, false_and, and_false, true_or, or_true, false_or, or_false, Bool.false_eq_true, b2i_0, b2i_1, bl_0, bl_1, bl_b2, not_true_eq_false, not_false_eq_true, cs.k, a1]
    unfold G_X1_laysGame_6
    refine lp_ok (fun st n => ∃ (g : AH) (i : Nat), st = (g, z, iI a, iI b, iI i) ∧ (i : Int) ≤ τ 3 ∧ n = (τ 3 - i).toNat ∧ tf (GP z) hC g ∧ (∀ s : Nat, (s : Int) < τ 0 → s ≠ a → s ≠ b → hI g (z + 275) s = iI (τ (12 + s))) ∧ gtC τ z a b g i 0) ?_ fuel (τ 3).toNat _ ⟨g0, 0, rfl, by omega, by simp, T0, fun s hs _ _ => a3 s hs, fun i' j' _ _ q => by omega⟩ (lt_fuel (by omega))
    rintro self st n ⟨g, i, rfl, h1, rfl, T1, p1, f1⟩ ih
    have r1 := r.scC gm (cS.tf T1 (fun a q => q.scr))
    have c1 := r1.c
    have cs1 := r1.cs
    have hz1 := r1.hz
    unfold L_X1_laysGame_6
    by_cases ho : τ 3 ≤ (i : Int)
    · simp (disch := omega) only [i_lit, i_neg, i_add, i_sub, i_mul, i_ofNat, i_div, i_le, i_lt, i_eq, i_ix, i_inb, i_max, i_min, e_rem, j_lit, j_i, Int.reduceToNat, Int.reduceAdd, Int.reduceSub, Int.reduceMul, Int.reduceNeg, Int.reduceLT, Int.reduceLE, Int.reduceEq, gd_t, gd_T, ↓bd_m, ↓on_m, ↓ec_m, ↓reduceIte, if_true, if_false, true_and, and_true, false_and, and_false, true_or, or_true, false_or, or_false, Bool.false_eq_true, b2i_0, b2i_1, bl_0, bl_1, bl_b2, not_true_eq_false, not_false_eq_true, B_X1_laysGame_6, cs1.k, hz1, many_eq c1, c1.k, c1.i9, c1.i10, c1.r0, c1.r1, c1.r2, c1.r3, c1.r4, c1.r5, c1.r6, c1.r7, c1.r8, c1.a0.k, c1.a1.k, c1.a2.k, c1.a3.k, c1.a4.k, size_eq c1.a0, size_eq c1.a1, size_eq c1.a2, size_eq c1.a3, size_eq c1.a4, c1.kb, c1.lb, c1.kl, c1.ll, c1.kw, c1.lw_, c1.kL, c1.l, ho]
      exact Ok1.some ⟨T1, fun i' j' q1 q2 => f1 i' j' q1 q2 (by omega)⟩
    · simp (disch := omega) only [i_lit, i_neg, i_add, i_sub, i_mul, i_ofNat, i_div, i_le, i_lt, i_eq, i_ix, i_inb, i_max, i_min, e_rem, j_lit, j_i, Int.reduceToNat, Int.reduceAdd, Int.reduceSub, Int.reduceMul, Int.reduceNeg, Int.reduceLT, Int.reduceLE, Int.reduceEq, gd_t, gd_T, ↓bd_m, ↓on_m, ↓ec_m, ↓reduceIte, if_true, if_false, true_and, and_true, false_and, and_false, true_or, or_true, false_or, or_false, Bool.false_eq_true, b2i_0, b2i_1, bl_0, bl_1, bl_b2, not_true_eq_false, not_false_eq_true, B_X1_laysGame_6, cs1.k, hz1, many_eq c1, c1.k, c1.i9, c1.i10, c1.r0, c1.r1, c1.r2, c1.r3, c1.r4, c1.r5, c1.r6, c1.r7, c1.r8, c1.a0.k, c1.a1.k, c1.a2.k, c1.a3.k, c1.a4.k, size_eq c1.a0, size_eq c1.a1, size_eq c1.a2, size_eq c1.a3, size_eq c1.a4, c1.kb, c1.lb, c1.kl, c1.ll, c1.kw, c1.lw_, c1.kL, c1.l, ho]
      have ih' := fun g2 (x1 : tf (GP z) hC g2) x2 x3 => ih (g2, z, iI a, iI b, iI ((i + 1 : Nat) : Int)) (τ 3 - ((i + 1 : Nat) : Int)).toNat (by omega) ⟨g2, i + 1, rfl, by omega, rfl, x1, x2, x3⟩
      rw [show (((i + 1 : Nat)) : Int) = (i : Int) + 1 by omega] at ih'
      clear ih r1 c1 cs1 hz1
      unfold G_X1_laysGame_20
      refine lp_ok (fun st n => ∃ (g : AH) (j : Nat), st = (g, z, iI a, iI b, iI i, iI j) ∧ (j : Int) ≤ τ 3 ∧ n = (τ 3 - j).toNat ∧ tf (GP z) hC g ∧ (∀ s : Nat, (s : Int) < τ 0 → s ≠ a → s ≠ b → hI g (z + 275) s = iI (τ (12 + s))) ∧ gtC τ z a b g i j) ?_ fuel (τ 3).toNat _ ⟨g, 0, rfl, by omega, by simp, T1, p1, f1⟩ (lt_fuel (by omega))
      clear T1 p1 f1
      rintro self2 st n ⟨g, j, rfl, h2, rfl, T1, p1, f1⟩ ih2
      have r1 := r.scC gm (cS.tf T1 (fun a q => q.scr))
      have c1 := r1.c
      have cs1 := r1.cs
      have hz1 := r1.hz
      unfold L_X1_laysGame_20
      by_cases hj : τ 3 ≤ (j : Int)
      · simp (disch := omega) only [i_lit, i_neg, i_add, i_sub, i_mul, i_ofNat, i_div, i_le, i_lt, i_eq, i_ix, i_inb, i_max, i_min, e_rem, j_lit, j_i, Int.reduceToNat, Int.reduceAdd, Int.reduceSub, Int.reduceMul, Int.reduceNeg, Int.reduceLT, Int.reduceLE, Int.reduceEq, gd_t, gd_T, ↓bd_m, ↓on_m, ↓ec_m, ↓reduceIte, if_true, if_false, true_and, and_true, false_and, and_false, true_or, or_true, false_or, or_false, Bool.false_eq_true, b2i_0, b2i_1, bl_0, bl_1, bl_b2, not_true_eq_false, not_false_eq_true, B_X1_laysGame_20, B_X1_laysGame_224, cs1.k, hz1, many_eq c1, c1.k, c1.i9, c1.i10, c1.r0, c1.r1, c1.r2, c1.r3, c1.r4, c1.r5, c1.r6, c1.r7, c1.r8, c1.a0.k, c1.a1.k, c1.a2.k, c1.a3.k, c1.a4.k, size_eq c1.a0, size_eq c1.a1, size_eq c1.a2, size_eq c1.a3, size_eq c1.a4, c1.kb, c1.lb, c1.kl, c1.ll, c1.kw, c1.lw_, c1.kL, c1.l, hj]
        exact ih' g T1 p1 (fun i' j' q1 q2 q3 => f1 i' j' q1 q2 (by omega))
      · have l1 := c1.l i (by omega)
        have l2 := c1.l j (by omega)
        have GZ : GP z (z + 275) := Or.inl rfl
        simp (disch := omega) only [i_lit, i_neg, i_add, i_sub, i_mul, i_ofNat, i_div, i_le, i_lt, i_eq, i_ix, i_inb, i_max, i_min, e_rem, j_lit, j_i, Int.reduceToNat, Int.reduceAdd, Int.reduceSub, Int.reduceMul, Int.reduceNeg, Int.reduceLT, Int.reduceLE, Int.reduceEq, gd_t, gd_T, ↓bd_m, ↓on_m, ↓ec_m, ↓reduceIte, if_true, if_false, true_and, and_true, false_and, and_false, true_or, or_true, false_or, or_false, Bool.false_eq_true, b2i_0, b2i_1, bl_0, bl_1, bl_b2, not_true_eq_false, not_false_eq_true, B_X1_laysGame_20, cs1.k, hz1, many_eq c1, c1.k, c1.i9, c1.i10, c1.r0, c1.r1, c1.r2, c1.r3, c1.r4, c1.r5, c1.r6, c1.r7, c1.r8, c1.a0.k, c1.a1.k, c1.a2.k, c1.a3.k, c1.a4.k, size_eq c1.a0, size_eq c1.a1, size_eq c1.a2, size_eq c1.a3, size_eq c1.a4, c1.kb, c1.lb, c1.kl, c1.ll, c1.kw, c1.lw_, c1.kL, c1.l, hj, cs1.r275, cs1.k275, cs1.l275, l1, Int.toNat_natCast]
        refine fw2 T1 GZ (fun g2 T2 u2 d2 _ => ?_)
        have r2 := r.scC gm (cS.tf T2 (fun a q => q.scr))
        have c2 := r2.c
        have cs2 := r2.cs
        have hz2 := r2.hz
        have l3 := c2.l j (by omega)
        simp (disch := omega) only [i_lit, i_neg, i_add, i_sub, i_mul, i_ofNat, i_div, i_le, i_lt, i_eq, i_ix, i_inb, i_max, i_min, e_rem, j_lit, j_i, Int.reduceToNat, Int.reduceAdd, Int.reduceSub, Int.reduceMul, Int.reduceNeg, Int.reduceLT, Int.reduceLE, Int.reduceEq, gd_t, gd_T, ↓bd_m, ↓on_m, ↓ec_m, ↓reduceIte, if_true, if_false, true_and, and_true, false_and, and_false, true_or, or_true, false_or, or_false, Bool.false_eq_true, b2i_0, b2i_1, bl_0, bl_1, bl_b2, not_true_eq_false, not_false_eq_true, B_X1_laysGame_47, cs2.k, hz2, many_eq c2, c2.k, c2.i9, c2.i10, c2.r0, c2.r1, c2.r2, c2.r3, c2.r4, c2.r5, c2.r6, c2.r7, c2.r8, c2.a0.k, c2.a1.k, c2.a2.k, c2.a3.k, c2.a4.k, size_eq c2.a0, size_eq c2.a1, size_eq c2.a2, size_eq c2.a3, size_eq c2.a4, c2.kb, c2.lb, c2.kl, c2.ll, c2.kw, c2.lw_, c2.kL, c2.l, cs2.r275, cs2.k275, cs2.l275, l3, Int.toNat_natCast]
        refine fw2 T2 GZ (fun g3 T3 u3 d3 _ => ?_)
        have r3 := r.scC gm (cS.tf T3 (fun a q => q.scr))
        have c3 := r3.c
        have cs3 := r3.cs
        have hz3 := r3.hz
        have wA := cs3.w276 i (by omega)
        have GA : GP z (z + 277 + i) := by unfold GP; omega
        have GB : GP z (z + 286 + i) := by unfold GP; omega
        simp (disch := omega) only [i_lit, i_neg, i_add, i_sub, i_mul, i_ofNat, i_div, i_le, i_lt, i_eq, i_ix, i_inb, i_max, i_min, e_rem, j_lit, j_i, Int.reduceToNat, Int.reduceAdd, Int.reduceSub, Int.reduceMul, Int.reduceNeg, Int.reduceLT, Int.reduceLE, Int.reduceEq, gd_t, gd_T, ↓bd_m, ↓on_m, ↓ec_m, ↓reduceIte, if_true, if_false, true_and, and_true, false_and, and_false, true_or, or_true, false_or, or_false, Bool.false_eq_true, b2i_0, b2i_1, bl_0, bl_1, bl_b2, not_true_eq_false, not_false_eq_true, B_X1_laysGame_63, cs3.k, cs3.r276, cs3.k276, cs3.l276, wA.1, wA.2.1, wA.2.2, Int.toNat_natCast]
        refine fw2 T3 GA (fun g4 T4 u4 d4 _ => ?_)
        have r4 := r.scC gm (cS.tf T4 (fun a q => q.scr))
        have c4 := r4.c
        have cs4 := r4.cs
        have hz4 := r4.hz
        have wB := cs4.w285 i (by omega)
        simp (disch := omega) only [i_lit, i_neg, i_add, i_sub, i_mul, i_ofNat, i_div, i_le, i_lt, i_eq, i_ix, i_inb, i_max, i_min, e_rem, j_lit, j_i, Int.reduceToNat, Int.reduceAdd, Int.reduceSub, Int.reduceMul, Int.reduceNeg, Int.reduceLT, Int.reduceLE, Int.reduceEq, gd_t, gd_T, ↓bd_m, ↓on_m, ↓ec_m, ↓reduceIte, if_true, if_false, true_and, and_true, false_and, and_false, true_or, or_true, false_or, or_false, Bool.false_eq_true, b2i_0, b2i_1, bl_0, bl_1, bl_b2, not_true_eq_false, not_false_eq_true, B_X1_laysGame_73, cs4.k, cs4.r285, cs4.k285, cs4.l285, wB.1, wB.2.1, wB.2.2, Int.toNat_natCast]
        refine fw2 T4 GB (fun g5 T5 u5 d5 _ => ?_)
        unfold B_X1_laysGame_83
        rw [i_lit]
        have v4 : hI g5 (z + 275) = hI g3 (z + 275) := by
          funext l
          rw [d5 _ _ (by omega), d4 _ _ (by omega)]
        refine lays_k r gm ha hb (by omega) (by omega) T5 (fun s hs => ?_) (by rw [d5 _ _ (by omega)]; exact u4) u5 (fun g6 T6 p6 f6 vA vB => ?_)
        · rw [v4]
          unfold prS
          by_cases q1 : s = b
          · rw [if_pos q1, q1]; exact u3
          · rw [if_neg q1, d3 _ _ (by omega)]
            by_cases q2 : s = a
            · rw [if_pos q2, q2]; exact u2
            · rw [if_neg q2, d2 _ _ (by omega)]
              exact p1 s hs q2 q1
        · have ih3 := ih2 (g6, z, iI a, iI b, iI i, iI ((j + 1 : Nat) : Int)) (τ 3 - ((j + 1 : Nat) : Int)).toNat (by omega) ⟨g6, j + 1, rfl, by omega, rfl, T6, fun s hs q1 q2 => ?_, fun i' j' q1 q2 q3 => ?_⟩
          · rw [show (((j + 1 : Nat)) : Int) = (j : Int) + 1 by omega] at ih3
            exact ih3
          · rw [p6, v4, d3 _ _ (by omega), d2 _ _ (by omega)]
            exact p1 s hs q1 q2
          · by_cases q : i' = i ∧ j' = j
            · rw [q.1, q.2]
              exact ⟨vA, vB⟩
            · have f0 := f1 i' j' q1 q2 (by omega)
              have fr : ∀ c, (c = z + 277 + i' ∨ c = z + 286 + i') → hI g6 c j' = hI g c j' := fun c hc => by
                rw [f6 c j' (by omega) (by omega), d5 _ _ (by omega), d4 _ _ (by omega), d3 _ _ (by omega), d2 _ _ (by omega)]
              rw [fr _ (Or.inl rfl), fr _ (Or.inr rfl)]
              exact f0
  obtain ⟨h', k1, k2, k3⟩ := key
  exact ⟨h', k1, k2, k3⟩
