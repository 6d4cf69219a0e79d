/-! PURE HP: station -/
set_option maxRecDepth 100000
def sI (g g' : AH) (a k : Nat) (v : Int32) : Prop := (hn g' = hn g ∧ hc g' = hc g ∧ hs g' = hs g) ∧ hK g' = hK g ∧ hL g' = hL g ∧ hR g' = hR g ∧ hJ g' = hJ g ∧ hI g' a k = v ∧ ∀ c j, ¬ (c = a ∧ j = k) → hI g' c j = hI g c j
def sJ (g g' : AH) (a k : Nat) (v : Int64) : Prop := (hn g' = hn g ∧ hc g' = hc g ∧ hs g' = hs g) ∧ hK g' = hK g ∧ hL g' = hL g ∧ hR g' = hR g ∧ hI g' = hI g ∧ hJ g' a k = v ∧ ∀ c j, ¬ (c = a ∧ j = k) → hJ g' c j = hJ g c j
def sR (g g' : AH) (a k : Nat) (v : Option Nat) : Prop := (hn g' = hn g ∧ hc g' = hc g ∧ hs g' = hs g) ∧ hK g' = hK g ∧ hL g' = hL g ∧ hI g' = hI g ∧ hJ g' = hJ g ∧ hR g' a k = v ∧ ∀ c j, ¬ (c = a ∧ j = k) → hR g' c j = hR g c j
theorem eI {α : Type} {g : AH} {a k : Nat} {v : Int32} {K : AH → Option α} {E : Option α → Prop} (H : ∀ g', sI g g' a k v → E (K g')) : E (lh (wI g a k v) K) := H _ ⟨⟨rfl, rfl, rfl⟩, rfl, rfl, rfl, rfl, by rw [hI_wI, if_pos ⟨rfl, rfl⟩], fun c j q => by rw [hI_wI, if_neg q]⟩
theorem eJ {α : Type} {g : AH} {a k : Nat} {v : Int64} {K : AH → Option α} {E : Option α → Prop} (H : ∀ g', sJ g g' a k v → E (K g')) : E (lh (wJ g a k v) K) := H _ ⟨⟨rfl, rfl, rfl⟩, rfl, rfl, rfl, rfl, by rw [hJ_wJ, if_pos ⟨rfl, rfl⟩], fun c j q => by rw [hJ_wJ, if_neg q]⟩
theorem eR {α : Type} {g : AH} {a k : Nat} {v : Option Nat} {K : AH → Option α} {E : Option α → Prop} (H : ∀ g', sR g g' a k v → E (K g')) : E (lh (wR g a k v) K) := H _ ⟨⟨rfl, rfl, rfl⟩, rfl, rfl, rfl, rfl, by rw [hR_wR, if_pos ⟨rfl, rfl⟩], fun c j q => by rw [hR_wR, if_neg q]⟩
/-- a new cell was made -/
def sN (g g' : AH) (κ l s : Nat) : Prop := (hn g' = hn g + 1 ∧ hc g' = hc g - 1 ∧ hs g' = hs g - s) ∧ (∀ a, a ≠ hn g → sm g g' a) ∧ hK g' (hn g) = κ ∧ hL g' (hn g) = l ∧ (∀ j, hI g' (hn g) j = 0) ∧ (∀ j, hJ g' (hn g) j = 0) ∧ ∀ j, hR g' (hn g) j = none
theorem sN_nw (g : AH) (κ l s : Nat) : sN g (nw g κ l s) κ l s := ⟨⟨rfl, rfl, rfl⟩, fun a q => sm_nw q, by rw [hK_nw, if_pos rfl], by rw [hL_nw, if_pos rfl], fun j => by rw [hI_nw, if_pos rfl], fun j => by rw [hJ_nw, if_pos rfl], fun j => by rw [hR_nw, if_pos rfl]⟩
theorem eN {α : Type} {g : AH} {κ l s : Nat} {K : AH → Option α} {E : Option α → Prop} (H : ∀ g', sN g g' κ l s → E (K g')) : E (lh (nw g κ l s) K) := H _ (sN_nw g κ l s)
theorem sI.sm {g g' : AH} {a k : Nat} {v : Int32} (s : sI g g' a k v) {c : Nat} (h : c ≠ a) : sm g g' c := ⟨by rw [s.2.1], by rw [s.2.2.1], funext fun j => s.2.2.2.2.2.2 c j (fun q => h q.1), by rw [s.2.2.2.2.1], by rw [s.2.2.2.1]⟩
theorem sR.sm {g g' : AH} {a k : Nat} {v : Option Nat} (s : sR g g' a k v) {c : Nat} (h : c ≠ a) : sm g g' c := ⟨by rw [s.2.1], by rw [s.2.2.1], by rw [s.2.2.2.1], by rw [s.2.2.2.2.1], funext fun j => s.2.2.2.2.2.2 c j (fun q => h q.1)⟩
theorem sJ.sm {g g' : AH} {a k : Nat} {v : Int64} (s : sJ g g' a k v) {c : Nat} (h : c ≠ a) : sm g g' c := ⟨by rw [s.2.1], by rw [s.2.2.1], by rw [s.2.2.2.2.1], funext fun j => s.2.2.2.2.2.2 c j (fun q => h q.1), by rw [s.2.2.2.1]⟩
/-- a new, empty list -/
def lNw (g g' : AH) (a ε : Nat) : Prop := (hn g' = hn g ∧ hc g' = hc g ∧ hs g' = hs g) ∧ (∀ c, c ≠ a → sm g g' c) ∧ hK g' a = 32 ∧ hI g' a 2 = hI g a 2 ∧ hR g' a 1 = some ε
theorem init32 {h : AH} {a ε : Nat} (k : hK h a = 32) (r0 : hR h 0 0 = some ε) (na : a ≠ 0) : ∃ h', F_J2_init h a = some h' ∧ lNw h h' a ε := by
  have key : Ok1 (F_J2_init h a) (fun h' => lNw h h' a ε) := by
    unfold F_J2_init F_J1_init_k32 F_J0_init_k32
    have e : hR (wI h a 0 (iI 0)) 0 0 = some ε := r0
    simp (disch := omega) only [i_lit, i_neg, i_add, i_sub, i_mul, i_ofNat, i_div, i_le, i_lt, i_eq, i_ix, i_inb, i_max, i_min, e_rem, j_lit, j_i, Int.reduceToNat, Int.reduceAdd, Int.reduceSub, Int.reduceMul, Int.reduceNeg, Int.reduceLT, Int.reduceLE, Int.reduceEq, gd_t, gd_T, ↓bd_m, ↓lh_t, ↓on_m, ↓ec_m, ↓reduceIte, if_true, if_false, true_and, and_true, false_and, and_false, true_or, or_true, false_or, or_false, Bool.false_eq_true, b2i_0, b2i_1, bl_0, bl_1, bl_b2, not_true_eq_false, not_false_eq_true, k, e, hK_wI]
    refine Ok1.some ⟨⟨rfl, rfl, rfl⟩, fun c q => (sm_wI q).trans (sm_wR q), by rw [hK_wR, hK_wI]; exact k, by rw [hI_wR, hI_wI, if_neg (by omega)], by rw [hR_wR, if_pos ⟨rfl, rfl⟩]⟩
  obtain ⟨h', k1, k2⟩ := key
  exact ⟨h', k1, k2⟩
/-- a station is made -/
def stN (h h' : AH) (D ε : Nat) (c p l : Int32) : Prop := (hn h' = hn h + 1 ∧ hc h' = hc h - 1 ∧ hs h' = hs h - 3) ∧ (∀ a, a ≠ D → a ≠ hn h → sm h h' a) ∧ hK h' D = 9 ∧ (hI h' D 0 = c ∧ hI h' D 1 = l ∧ hI h' D 2 = p ∧ hI h' D 3 = iI (-1) ∧ hI h' D 4 = p) ∧ hJ h' D = hJ h D ∧ hR h' D 7 = some (hn h) ∧ hK h' (hn h) = 32 ∧ hI h' (hn h) 2 = 0 ∧ hR h' (hn h) 1 = some ε
theorem init9 {h : AH} {D ε : Nat} (k : hK h D = 9) (r0 : hR h 0 0 = some ε) (nD : D ≠ hn h) (n0 : 0 < hn h) (d0 : D ≠ 0) (g : 1 ≤ hc h ∧ 3 ≤ hs h) (c p l : Int32) : ∃ h', F_X9_init h D c p l = some h' ∧ stN h h' D ε c p l := by
  have key : Ok1 (F_X9_init h D c p l) (fun h' => stN h h' D ε c p l) := by
    unfold F_X9_init
    simp (disch := omega) only [i_lit, i_neg, i_add, i_sub, i_mul, i_ofNat, i_div, i_le, i_lt, i_eq, i_ix, i_inb, i_max, i_min, e_rem, j_lit, j_i, Int.reduceToNat, Int.reduceAdd, Int.reduceSub, Int.reduceMul, Int.reduceNeg, Int.reduceLT, Int.reduceLE, Int.reduceEq, gd_t, gd_T, ↓bd_m, ↓on_m, ↓ec_m, ↓reduceIte, if_true, if_false, true_and, and_true, false_and, and_false, true_or, or_true, false_or, or_false, Bool.false_eq_true, b2i_0, b2i_1, bl_0, bl_1, bl_b2, not_true_eq_false, not_false_eq_true, k]
    refine eI (E := fun X => Ok1 X _) (fun h1 s1 => ?_)
    have k1 : hK h1 D = 9 := by rw [s1.2.1]; exact k
    have g1 : 1 ≤ hc h1 ∧ 3 ≤ hs h1 := by rw [s1.1.2.1, s1.1.2.2]; exact g
    have en : hn h1 = hn h := s1.1.1
    simp (disch := omega) only [i_lit, i_neg, i_add, i_sub, i_mul, i_ofNat, i_div, i_le, i_lt, i_eq, i_ix, i_inb, i_max, i_min, e_rem, j_lit, j_i, Int.reduceToNat, Int.reduceAdd, Int.reduceSub, Int.reduceMul, Int.reduceNeg, Int.reduceLT, Int.reduceLE, Int.reduceEq, gd_t, gd_T, ↓bd_m, ↓on_m, ↓ec_m, ↓reduceIte, if_true, if_false, true_and, and_true, false_and, and_false, true_or, or_true, false_or, or_false, Bool.false_eq_true, b2i_0, b2i_1, bl_0, bl_1, bl_b2, not_true_eq_false, not_false_eq_true, B_X9_init_9, g1]
    refine eN (E := fun X => Ok1 X _) (fun h2 s2 => ?_)
    unfold sN at s2
    rw [en] at s2
    obtain ⟨h3, f1, s3⟩ := init32 (h := h2) (a := hn h) (ε := ε) s2.2.2.1 (by rw [(s2.2.1 0 (by omega)).2.2.2.2, s1.2.2.2.1]; exact r0) (by omega)
    have k3 : hK h3 D = 9 := by rw [(s3.2.1 D nD).1, (s2.2.1 D (by omega)).1]; exact k1
    simp (disch := omega) only [i_lit, i_neg, i_add, i_sub, i_mul, i_ofNat, i_div, i_le, i_lt, i_eq, i_ix, i_inb, i_max, i_min, e_rem, j_lit, j_i, Int.reduceToNat, Int.reduceAdd, Int.reduceSub, Int.reduceMul, Int.reduceNeg, Int.reduceLT, Int.reduceLE, Int.reduceEq, gd_t, gd_T, ↓bd_m, ↓on_m, ↓ec_m, ↓reduceIte, if_true, if_false, true_and, and_true, false_and, and_false, true_or, or_true, false_or, or_false, Bool.false_eq_true, b2i_0, b2i_1, bl_0, bl_1, bl_b2, not_true_eq_false, not_false_eq_true, en, f1, k3]
    refine eR (E := fun X => Ok1 X _) (fun h4 s4 => ?_)
    have k4 : hK h4 D = 9 := by rw [s4.2.1]; exact k3
    simp (disch := omega) only [i_lit, i_neg, i_add, i_sub, i_mul, i_ofNat, i_div, i_le, i_lt, i_eq, i_ix, i_inb, i_max, i_min, e_rem, j_lit, j_i, Int.reduceToNat, Int.reduceAdd, Int.reduceSub, Int.reduceMul, Int.reduceNeg, Int.reduceLT, Int.reduceLE, Int.reduceEq, gd_t, gd_T, ↓bd_m, ↓on_m, ↓ec_m, ↓reduceIte, if_true, if_false, true_and, and_true, false_and, and_false, true_or, or_true, false_or, or_false, Bool.false_eq_true, b2i_0, b2i_1, bl_0, bl_1, bl_b2, not_true_eq_false, not_false_eq_true, B_X9_init_20, k4]
    refine eI (E := fun X => Ok1 X _) (fun h5 s5 => ?_)
    have k5 : hK h5 D = 9 := by rw [s5.2.1]; exact k4
    simp (disch := omega) only [i_lit, i_neg, i_add, i_sub, i_mul, i_ofNat, i_div, i_le, i_lt, i_eq, i_ix, i_inb, i_max, i_min, e_rem, j_lit, j_i, Int.reduceToNat, Int.reduceAdd, Int.reduceSub, Int.reduceMul, Int.reduceNeg, Int.reduceLT, Int.reduceLE, Int.reduceEq, gd_t, gd_T, ↓bd_m, ↓on_m, ↓ec_m, ↓reduceIte, if_true, if_false, true_and, and_true, false_and, and_false, true_or, or_true, false_or, or_false, Bool.false_eq_true, b2i_0, b2i_1, bl_0, bl_1, bl_b2, not_true_eq_false, not_false_eq_true, B_X9_init_25, k5]
    refine eI (E := fun X => Ok1 X _) (fun h6 s6 => ?_)
    have k6 : hK h6 D = 9 := by rw [s6.2.1]; exact k5
    simp (disch := omega) only [i_lit, i_neg, i_add, i_sub, i_mul, i_ofNat, i_div, i_le, i_lt, i_eq, i_ix, i_inb, i_max, i_min, e_rem, j_lit, j_i, Int.reduceToNat, Int.reduceAdd, Int.reduceSub, Int.reduceMul, Int.reduceNeg, Int.reduceLT, Int.reduceLE, Int.reduceEq, gd_t, gd_T, ↓bd_m, ↓on_m, ↓ec_m, ↓reduceIte, if_true, if_false, true_and, and_true, false_and, and_false, true_or, or_true, false_or, or_false, Bool.false_eq_true, b2i_0, b2i_1, bl_0, bl_1, bl_b2, not_true_eq_false, not_false_eq_true, B_X9_init_30, k6]
    refine eI (E := fun X => Ok1 X _) (fun h7 s7 => ?_)
    have k7 : hK h7 D = 9 := by rw [s7.2.1]; exact k6
    simp (disch := omega) only [i_lit, i_neg, i_add, i_sub, i_mul, i_ofNat, i_div, i_le, i_lt, i_eq, i_ix, i_inb, i_max, i_min, e_rem, j_lit, j_i, Int.reduceToNat, Int.reduceAdd, Int.reduceSub, Int.reduceMul, Int.reduceNeg, Int.reduceLT, Int.reduceLE, Int.reduceEq, gd_t, gd_T, ↓bd_m, ↓on_m, ↓ec_m, ↓reduceIte, if_true, if_false, true_and, and_true, false_and, and_false, true_or, or_true, false_or, or_false, Bool.false_eq_true, b2i_0, b2i_1, bl_0, bl_1, bl_b2, not_true_eq_false, not_false_eq_true, B_X9_init_35, k7]
    refine eI (E := fun X => Ok1 X _) (fun h8 s8 => ?_)
    have A : ∀ a, a ≠ D → sm h3 h8 a := fun a q => (((((s4.sm q).trans (s5.sm q)).trans (s6.sm q)).trans (s7.sm q)).trans (s8.sm q))
    have i5 := s5.2.2.2.2.2
    have i6 := s6.2.2.2.2.2
    have i7 := s7.2.2.2.2.2
    have i8 := s8.2.2.2.2.2
    have nn := A (hn h) (by omega)
    refine Ok1.some ⟨⟨?_, ?_, ?_⟩, fun a q1 q2 => (s1.sm q1).trans ((s2.2.1 a (by omega)).trans ((s3.2.1 a q2).trans (A a q1))), by rw [s8.2.1]; exact k7, ⟨?_, ?_, ?_, ?_, i8.1⟩, ?_, ?_, ?_, ?_, ?_⟩
    · rw [s8.1.1, s7.1.1, s6.1.1, s5.1.1, s4.1.1, s3.1.1, s2.1.1]
    · rw [s8.1.2.1, s7.1.2.1, s6.1.2.1, s5.1.2.1, s4.1.2.1, s3.1.2.1, s2.1.2.1, s1.1.2.1]
    · rw [s8.1.2.2, s7.1.2.2, s6.1.2.2, s5.1.2.2, s4.1.2.2, s3.1.2.2, s2.1.2.2, s1.1.2.2]
    · rw [i8.2 _ _ (by omega), i7.2 _ _ (by omega), i6.2 _ _ (by omega)]; exact i5.1
    · rw [i8.2 _ _ (by omega), i7.2 _ _ (by omega)]; exact i6.1
    · rw [i8.2 _ _ (by omega)]; exact i7.1
    · rw [i8.2 _ _ (by omega), i7.2 _ _ (by omega), i6.2 _ _ (by omega), i5.2 _ _ (by omega), s4.2.2.2.1, (s3.2.1 D nD).2.2.1, (s2.2.1 D (by omega)).2.2.1]; exact s1.2.2.2.2.2.1
    · rw [s8.2.2.2.2.1, s7.2.2.2.2.1, s6.2.2.2.2.1, s5.2.2.2.2.1, s4.2.2.2.2.1, (s3.2.1 D nD).2.2.2.1, (s2.2.1 D (by omega)).2.2.2.1, s1.2.2.2.2.1]
    · rw [s8.2.2.2.1, s7.2.2.2.1, s6.2.2.2.1, s5.2.2.2.1]; exact s4.2.2.2.2.2.1
    · rw [nn.1]; exact s3.2.2.1
    · rw [nn.2.2.1, s3.2.2.2.1]; exact s2.2.2.2.2.1 2
    · rw [nn.2.2.2.2]; exact s3.2.2.2.2
  obtain ⟨h', k1, k2⟩ := key
  exact ⟨h', k1, k2⟩
