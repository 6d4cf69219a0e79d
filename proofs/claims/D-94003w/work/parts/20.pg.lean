/-! PURE G: a term's signs, run -/
set_option maxRecDepth 100000
theorem term_run {g : AH} {f : Nat} {τ σ : Nat → Int} {m B : Nat} {bt : Bool} {s x F M : Int} (r : SR τ bt s x) (hf1 : hK g f = 100) (hf2 : hL g f = 9) (hf3 : ∀ k : Nat, k < 9 → hI g f k = iI (worthS τ bt s x (100 + k))) (hσ : ∀ i, σ i = τ (B + i)) (hF : 0 ≤ F ∧ 0 ≤ M ∧ F + M ≤ 3179) {Q : Int32 × AH → Prop} :
    ∀ (n : Nat) (b : Bool) (a p q : Nat), TermE σ g n b a p q → ∃ v, F_of n g a f = some v ∧ (b = true → bl v) ∧ ∀ (K : Nat) (h : AH) (N : Nat), TN h m τ → hI h m 23 = b2 (bt = true) → N + (q - p) ≤ 440 → (B + q : Int) ≤ F + M →
      (∀ h', tf (fun a => a = m + 9) h h' → hI h' (m + 9) N = v → (∀ j, j < N → hI h' (m + 9) j = hI h (m + 9) j) → Ok1 (lp (L_X8_isSo_6 g) K (h', m, iI F, iI M, iI s, iI x, iI (N + 1), iI (B + q))) Q) → Ok1 (lp (L_X8_isSo_6 g) (K + (q - p)) (h, m, iI F, iI M, iI s, iI x, iI N, iI (B + p))) Q := by
  intro n
  induction n with
  | zero => intro b a p q h; exact h.elim
  | succ n ih =>
    intro b a p q hE
    have hlt := TermE.lt _ _ _ _ _ hE
    rcases hE with ⟨rfl, k1, rfl, v1, v2, v3⟩ | ⟨rfl, k1, rfl, v1, v2, v3⟩ | ⟨rfl, k1, c, r', c1, rfl, c2, c3⟩ | ⟨k1, c, d, r', r2, c1, c2, rfl, c3, c4⟩
    · refine ⟨iI (σ p), ?_, (fun e => by cases e), ?_⟩
      · unfold F_of F_X23_of
        simp only [k1, if_true, gd_T, v3]
      · intro K h N t hb hN hq hk
        have ts := t.s
        have ti := t.i
        have e1 := worth_eq t hb r (k := σ p) (by omega)
        have e2 : worthS τ bt s x (σ p) = σ p := by
          unfold worthS
          repeat (rw [if_neg (by omega)])
        have hs := hσ p
        have hi := t.g
        rw [show K + (p + 1 - p) = K + 1 by omega, lp]
        generalize lp (L_X8_isSo_6 g) K = self at hk ⊢
        unfold L_X8_isSo_6 B_X8_isSo_6 B_X8_isSo_115
        rw [e2] at e1
        have e3 : (((B : Int) + (p : Int)).toNat) = B + p := by omega
        simp (disch := omega) only [i_lit, i_neg, i_add, i_sub, i_mul, i_ofNat, i_div, i_le, i_lt, i_eq, i_ix, i_inb, i_max, i_min, e_rem, j_lit, j_i, Int.reduceToNat, Int.reduceAdd, Int.reduceSub, Int.reduceMul, Int.reduceNeg, Int.reduceLT, Int.reduceLE, Int.reduceEq, gd_t, gd_T, bd_t, lh_t, on_s, on_n, ec_l, ec_r, if_true, if_false, true_and, and_true, false_and, and_false, true_or, or_true, false_or, or_false, Bool.false_eq_true, b2i_0, b2i_1, bl_0, bl_1, bl_b2, not_true_eq_false, not_false_eq_true, ts.k, ts.r1, ts.k1, ts.l1, ts.r2, ts.k2, ts.l2, ts.r3, ts.k3, ts.l3, ts.r4, ts.k4, ts.l4, ts.r5, ts.k5, ts.l5, ts.r6, ts.k6, ts.l6, ts.r7, ts.k7, ts.l7, ts.r8, ts.k8, ts.l8, ts.r9, ts.k9, ts.l9, ts.r10, ts.k10, ts.l10, ts.r11, ts.k11, ts.l11, ts.r12, ts.k12, ts.l12, ts.r13, ts.k13, ts.l13, ts.r14, ts.k14, ts.l14, ts.r15, ts.k15, ts.l15, ts.r16, ts.k16, ts.l16, ts.r17, ts.k17, ts.l17, ts.r18, ts.k18, ts.l18, ts.r19, ts.k19, ts.l19, ts.r20, ts.k20, ts.l20, ti, e3, ← hs, e1]
        rw [if_neg (by omega), if_neg (by omega), if_neg (by omega)]
        have := hk (wI h (m + 9) N (iI (σ p))) (tf_wI rfl) (by rw [hI_wI, if_pos ⟨rfl, rfl⟩]) (fun j hj => by rw [hI_wI, if_neg (by omega)])
        rw [show ((B : Int) + ((p + 1 : Nat) : Int)) = B + p + 1 by omega] at this
        exact this
    · refine ⟨iI (worthS τ bt s x (σ p)), ?_, (fun e => by cases e), ?_⟩
      · have e1 := hf3 (σ p - 100).toNat (by omega)
        rw [show (100 : Int) + ((σ p - 100).toNat : Nat) = σ p by omega] at e1
        unfold F_of F_X24_of
        simp (disch := omega) only [i_lit, i_neg, i_add, i_sub, i_mul, i_ofNat, i_div, i_le, i_lt, i_eq, i_ix, i_inb, i_max, i_min, e_rem, j_lit, j_i, Int.reduceToNat, Int.reduceAdd, Int.reduceSub, Int.reduceMul, Int.reduceNeg, Int.reduceLT, Int.reduceLE, Int.reduceEq, gd_t, gd_T, bd_t, lh_t, on_s, on_n, ec_l, ec_r, if_true, if_false, true_and, and_true, false_and, and_false, true_or, or_true, false_or, or_false, Bool.false_eq_true, b2i_0, b2i_1, bl_0, bl_1, bl_b2, not_true_eq_false, not_false_eq_true, k1, v3, hf1, hf2, e1]
        rw [if_neg (by decide)]
      · intro K h N t hb hN hq hk
        have ts := t.s
        have ti := t.i
        have e1 := worth_eq t hb r (k := σ p) (by omega)
        have hs := hσ p
        have hi := t.g
        rw [show K + (p + 1 - p) = K + 1 by omega, lp]
        generalize lp (L_X8_isSo_6 g) K = self at hk ⊢
        unfold L_X8_isSo_6 B_X8_isSo_6 B_X8_isSo_115
        have e3 : (((B : Int) + (p : Int)).toNat) = B + p := by omega
        simp (disch := omega) only [i_lit, i_neg, i_add, i_sub, i_mul, i_ofNat, i_div, i_le, i_lt, i_eq, i_ix, i_inb, i_max, i_min, e_rem, j_lit, j_i, Int.reduceToNat, Int.reduceAdd, Int.reduceSub, Int.reduceMul, Int.reduceNeg, Int.reduceLT, Int.reduceLE, Int.reduceEq, gd_t, gd_T, bd_t, lh_t, on_s, on_n, ec_l, ec_r, if_true, if_false, true_and, and_true, false_and, and_false, true_or, or_true, false_or, or_false, Bool.false_eq_true, b2i_0, b2i_1, bl_0, bl_1, bl_b2, not_true_eq_false, not_false_eq_true, ts.k, ts.r1, ts.k1, ts.l1, ts.r2, ts.k2, ts.l2, ts.r3, ts.k3, ts.l3, ts.r4, ts.k4, ts.l4, ts.r5, ts.k5, ts.l5, ts.r6, ts.k6, ts.l6, ts.r7, ts.k7, ts.l7, ts.r8, ts.k8, ts.l8, ts.r9, ts.k9, ts.l9, ts.r10, ts.k10, ts.l10, ts.r11, ts.k11, ts.l11, ts.r12, ts.k12, ts.l12, ts.r13, ts.k13, ts.l13, ts.r14, ts.k14, ts.l14, ts.r15, ts.k15, ts.l15, ts.r16, ts.k16, ts.l16, ts.r17, ts.k17, ts.l17, ts.r18, ts.k18, ts.l18, ts.r19, ts.k19, ts.l19, ts.r20, ts.k20, ts.l20, ti, e3, ← hs, e1]
        rw [if_neg (by omega), if_neg (by omega), if_neg (by omega)]
        have := hk (wI h (m + 9) N (iI (worthS τ bt s x (σ p)))) (tf_wI rfl) (by rw [hI_wI, if_pos ⟨rfl, rfl⟩]) (fun j hj => by rw [hI_wI, if_neg (by omega)])
        rw [show ((B : Int) + ((p + 1 : Nat) : Int)) = B + p + 1 by omega] at this
        exact this
    · obtain ⟨v, v1, v2, v3⟩ := ih true c p r' c3
      have hlt3 := TermE.lt _ _ _ _ _ c3
      refine ⟨1 - v, ?_, ?_, ?_⟩
      · unfold F_of F_X22_of
        simp only [k1, c1, v1, gd_T, bd_t, if_true]
        rw [if_neg (by decide), if_neg (by decide)]
      · intro _
        rcases v2 rfl with q | q
        · subst q; decide
        · subst q; decide
      · intro K h N t hb hN hq hk
        rw [show K + (r' + 1 - p) = (K + 1) + (r' - p) by omega]
        refine v3 (K + 1) h N t hb (by omega) (by omega) ?_
        intro h' t1 t2 t3
        have t' := t.tf t1 (by omega)
        have ts := t'.s
        have ti := t'.i
        have hs := hσ r'
        have hi := t.g
        have e3 : (((B : Int) + (r' : Int)).toNat) = B + r' := by omega
        have e4 : ((N : Int) + 1 - 1).toNat = N := by omega
        rw [lp]
        generalize lp (L_X8_isSo_6 g) K = self at hk ⊢
        unfold L_X8_isSo_6 B_X8_isSo_6 B_X8_isSo_115
        simp (disch := omega) only [i_lit, i_neg, i_add, i_sub, i_mul, i_ofNat, i_div, i_le, i_lt, i_eq, i_ix, i_inb, i_max, i_min, e_rem, j_lit, j_i, Int.reduceToNat, Int.reduceAdd, Int.reduceSub, Int.reduceMul, Int.reduceNeg, Int.reduceLT, Int.reduceLE, Int.reduceEq, gd_t, gd_T, bd_t, lh_t, on_s, on_n, ec_l, ec_r, if_true, if_false, true_and, and_true, false_and, and_false, true_or, or_true, false_or, or_false, Bool.false_eq_true, b2i_0, b2i_1, bl_0, bl_1, bl_b2, not_true_eq_false, not_false_eq_true, ts.k, ts.r1, ts.k1, ts.l1, ts.r2, ts.k2, ts.l2, ts.r3, ts.k3, ts.l3, ts.r4, ts.k4, ts.l4, ts.r5, ts.k5, ts.l5, ts.r6, ts.k6, ts.l6, ts.r7, ts.k7, ts.l7, ts.r8, ts.k8, ts.l8, ts.r9, ts.k9, ts.l9, ts.r10, ts.k10, ts.l10, ts.r11, ts.k11, ts.l11, ts.r12, ts.k12, ts.l12, ts.r13, ts.k13, ts.l13, ts.r14, ts.k14, ts.l14, ts.r15, ts.k15, ts.l15, ts.r16, ts.k16, ts.l16, ts.r17, ts.k17, ts.l17, ts.r18, ts.k18, ts.l18, ts.r19, ts.k19, ts.l19, ts.r20, ts.k20, ts.l20, ti, e3, ← hs, c2, e4, t2]
        rw [if_neg (by omega)]
        have := hk (wI h' (m + 9) N (1 - v)) (t1.trans (tf_wI rfl)) (by rw [hI_wI, if_pos ⟨rfl, rfl⟩]) (fun j hj => by rw [hI_wI, if_neg (by omega)]; exact t3 j hj)
        rw [show ((B : Int) + ((r' + 1 : Nat) : Int)) = B + r' + 1 by omega] at this
        exact this
    · have hop : ∃ b' : Bool, TermE σ g n b' c p r' ∧ TermE σ g n b' d r' r2 ∧ (σ r2 = 110 ∨ σ r2 = 111 ∨ σ r2 = 112 ∨ σ r2 = 113 ∨ σ r2 = 114 ∨ σ r2 = 116 ∨ σ r2 = 117) ∧ (b = true → (σ r2 = 112 ∨ σ r2 = 113 ∨ σ r2 = 114) ∨ ((σ r2 = 116 ∨ σ r2 = 117) ∧ b' = true)) := by
        rcases c4 with ⟨rfl, d1, d2, d3⟩ | ⟨rfl, d1, d2, d3⟩ | ⟨rfl, d1, d2, d3⟩
        · exact ⟨false, d2, d3, by omega, fun e => by cases e⟩
        · exact ⟨false, d2, d3, by omega, fun _ => Or.inl d1⟩
        · exact ⟨true, d2, d3, by omega, fun _ => Or.inr ⟨d1, rfl⟩⟩
      obtain ⟨b', d1, d2, d3, d4⟩ := hop
      obtain ⟨v, v1, v2, v3⟩ := ih b' c p r' d1
      obtain ⟨w, w1, w2, w3⟩ := ih b' d r' r2 d2
      have hlt3 := TermE.lt _ _ _ _ _ d1
      have hlt4 := TermE.lt _ _ _ _ _ d2
      refine ⟨opS (σ r2) v w, ?_, ?_, ?_⟩
      · unfold F_of
        rw [if_neg (by omega), if_neg (by omega), if_neg (by omega), if_pos k1]
        exact Two_eq d3 k1 c1 c2 c3 v1 w1
      · intro hb1
        refine bl_op ?_
        rcases d4 hb1 with q | ⟨q, rfl⟩
        · exact Or.inl q
        · exact Or.inr ⟨q, v2 rfl, w2 rfl⟩
      · intro K h N t hb hN hq hk
        rw [show K + (r2 + 1 - p) = ((K + 1) + (r2 - r')) + (r' - p) by omega]
        refine v3 _ h N t hb (by omega) (by omega) ?_
        intro h1 t1 t2 t3
        refine w3 (K + 1) h1 (N + 1) (t.tf t1 (by omega)) (by rw [t1.I (by omega)]; exact hb) (by omega) (by omega) ?_
        intro h' u1 u2 u3
        have t' := (t.tf t1 (by omega)).tf u1 (by omega)
        have ts := t'.s
        have ti := t'.i
        have hs := hσ r2
        have hi := t.g
        have e3 : (((B : Int) + (r2 : Int)).toNat) = B + r2 := by omega
        have e4 : (((N + 1 : Nat) : Int) + 1 + -1).toNat = N + 1 := by omega
        have e5 : (((N + 1 : Nat) : Int) + 1 + -1 - 1).toNat = N := by omega
        have e6 : hI h' (m + 9) N = v := (u3 N (by omega)).trans t2
        have e7 := both_eq h' (k := σ r2) (by omega) (by omega) v w
        rw [lp]
        generalize lp (L_X8_isSo_6 g) K = self at hk ⊢
        unfold L_X8_isSo_6 B_X8_isSo_6 B_X8_isSo_115
        simp (disch := omega) only [i_lit, i_neg, i_add, i_sub, i_mul, i_ofNat, i_div, i_le, i_lt, i_eq, i_ix, i_inb, i_max, i_min, e_rem, j_lit, j_i, Int.reduceToNat, Int.reduceAdd, Int.reduceSub, Int.reduceMul, Int.reduceNeg, Int.reduceLT, Int.reduceLE, Int.reduceEq, gd_t, gd_T, bd_t, lh_t, on_s, on_n, ec_l, ec_r, if_true, if_false, true_and, and_true, false_and, and_false, true_or, or_true, false_or, or_false, Bool.false_eq_true, b2i_0, b2i_1, bl_0, bl_1, bl_b2, not_true_eq_false, not_false_eq_true, ts.k, ts.r1, ts.k1, ts.l1, ts.r2, ts.k2, ts.l2, ts.r3, ts.k3, ts.l3, ts.r4, ts.k4, ts.l4, ts.r5, ts.k5, ts.l5, ts.r6, ts.k6, ts.l6, ts.r7, ts.k7, ts.l7, ts.r8, ts.k8, ts.l8, ts.r9, ts.k9, ts.l9, ts.r10, ts.k10, ts.l10, ts.r11, ts.k11, ts.l11, ts.r12, ts.k12, ts.l12, ts.r13, ts.k13, ts.l13, ts.r14, ts.k14, ts.l14, ts.r15, ts.k15, ts.l15, ts.r16, ts.k16, ts.l16, ts.r17, ts.k17, ts.l17, ts.r18, ts.k18, ts.l18, ts.r19, ts.k19, ts.l19, ts.r20, ts.k20, ts.l20, ti, e3, ← hs, e4, e5, e6, u2, e7]
        rw [if_neg (by omega), if_neg (by omega), if_pos (by omega)]
        have := hk (wI h' (m + 9) N (opS (σ r2) v w)) ((t1.trans u1).trans (tf_wI rfl)) (by rw [hI_wI, if_pos ⟨rfl, rfl⟩]) (fun j hj => by rw [hI_wI, if_neg (by omega)]; exact (u3 j (by omega)).trans (t3 j hj))
        rw [show ((B : Int) + ((r2 + 1 : Nat) : Int)) = B + r2 + 1 by omega] at this
        rw [show (((N + 1 : Nat) : Int) + 1 + -1) = N + 1 by omega]
        exact this
