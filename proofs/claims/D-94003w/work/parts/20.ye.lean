/-! PURE YE: a list grows -/
set_option maxRecDepth 100000
theorem hK_cpR (h : AH) (a b s d n : Nat) : hK (cpR h a b s d n) = hK h := Eq.trans rfl rfl
theorem hL_cpR (h : AH) (a b s d n : Nat) : hL (cpR h a b s d n) = hL h := Eq.trans rfl rfl
theorem hR_cpR (h : AH) (a b s d n c j : Nat) : hR (cpR h a b s d n) c j = if c = b then va_cpy (hR h a) (hR h b) s d n j else hR h c j := Eq.trans rfl rfl
theorem AL.ne {h : AH} {l e : Nat} {n : Int} (a : AL h l e n) : l ≠ e := fun q => by
  have h1 := a.k
  rw [q] at h1
  rcases a.c with w | w <;> omega
theorem shr1 (L : Nat) (h : L < 2 ^ 31) : (iI (L : Int)) >>> ((iI 1) &&& iI 31) = iI ((L : Int) / 2) := by
  have := pk_shrN (n := L) h ((1 : Int32) &&& 31) 1 (by decide)
  rw [i_nI, i_nI] at this
  exact this
/-- what a list's new row leaves -/
def GW (h h' : AH) (l e : Nat) (n : Int) : Prop := hn h' = hn h + 1 ∧ hc h ≤ hc h' + 1 ∧ hs h ≤ hs h' + 200 ∧ (∀ b, b ≠ hn h → b ≠ l → sm h h' b) ∧ hK h' l = 32 ∧ hL h' l = hL h l ∧ hI h' l = hI h l ∧ hJ h' l = hJ h l ∧ hR h' l 1 = some (hn h) ∧ (∀ j, j ≠ 1 → hR h' l j = hR h l j) ∧ hK h' (hn h) = 108 ∧ (n < hL h' (hn h) ∧ hL h' (hn h) ≤ 200 ∧ 10 ≤ hL h' (hn h)) ∧ ∀ i : Nat, (i : Int) < n → hR h' (hn h) i = hR h e i
theorem grow_eq {h : AH} {l e : Nat} {n : Int} (a : AL h l e n) (full : n = hL h e) (h100 : n ≤ 100) (ok : ∀ i : Nat, (i : Int) < n → okOb h (hR h e i) = true) (g : 1 ≤ hc h ∧ 200 ≤ hs h) (hl : l < hn h) (he : e < hn h) (hk0 : ∀ b, hn h ≤ b → hK h b = 0) : ∃ h', F_J2_grow_2 h l (iI (n + 1)) = some (hn h, h') ∧ GW h h' l e n := by
  have hp := a.p
  have ne := a.ne
  rcases a.c with ⟨c1, c2, c3, c4⟩ | ⟨c1, c2, c3, c4⟩
  · have e1 := shr1 (hL h e) (by omega)
    have hm : (1 : Int) ≤ ((hL h e : Nat) : Int) / 2 := by omega
    have hcap : ((hL h e : Nat) : Int) + ((hL h e : Nat) : Int) / 2 ≤ 150 := by omega
    have e0 : n + 1 - ((hL h e : Nat) : Int) = 1 := by omega
    generalize hcp : ((hL h e : Nat) : Int) + ((hL h e : Nat) : Int) / 2 = cap at hcap
    have emx : max 1 (((hL h e : Nat) : Int) / 2) = ((hL h e : Nat) : Int) / 2 := by omega
    have lc : ((hL h e : Nat) : Int) + 5 ≤ cap := by omega
    have emin : min ((hL h e : Nat) : Int) cap = ((hL h e : Nat) : Int) := by omega
    have nhe : e ≠ hn h := by omega
    have nhl : l ≠ hn h := by omega
    have okk : (∀ i, i < hL h e → okOb (nw h 108 cap.toNat cap.toNat) (hR h e (0 + i)) = true) := by
      intro i hi
      rw [Nat.zero_add]
      have := ok i (by omega)
      unfold okOb at this ⊢
      cases hq : hR h e i with
      | none => rfl
      | some y =>
        rw [hq] at this
        have hy : okE (hK h y) := of_decide_eq_true this
        have : y ≠ hn h ∨ y = hn h := by omega
        rcases this with w | w
        · show decide (okE (hK (nw h 108 cap.toNat cap.toNat) y)) = true
          rw [hK_nw, if_neg w]
          exact decide_eq_true hy
        · rw [w, hk0 _ (Nat.le_refl _)] at hy
          unfold okE at hy
          omega
    unfold F_J2_grow_2 B_J2_grow_2_20 F_J8_newLength F_J10_copyOf F_J10_copyOf_2
    have q1 : ((0 : Int) < ((hL h e : Nat) : Int)) = True := eq_true (by omega)
    have q2 : (cap ≤ 0) = False := eq_false (by omega)
    have q3 : (2147483639 < cap) = False := eq_false (by omega)
    have tL : (((hL h e : Nat) : Int)).toNat = hL h e := by omega
    simp (disch := omega) only [i_lit, i_neg, i_add, i_sub, i_mul, i_ofNat, i_div, i_le, i_lt, i_eq, i_ix, i_inb, i_max, i_min, e_rem, j_lit, j_i, Int.reduceToNat, Int.reduceAdd, Int.reduceSub, Int.reduceMul, Int.reduceNeg, Int.reduceLT, Int.reduceLE, Int.reduceEq, gd_t, gd_T, bd_t, lh_t, on_s, on_n, ec_l, ec_r, if_true, if_false, true_and, and_true, false_and, and_false, true_or, or_true, false_or, or_false, Bool.false_eq_true, b2i_0, b2i_1, bl_0, bl_1, bl_b2, not_true_eq_false, not_false_eq_true, a.k, a.r, c1, e1, e0, emx, hcp, hK_nw, hL_nw, hn_nw, nhe, nhl, emin, q1, q2, q3, i_toInt, tL, hR_nw, hK_cpR]
    refine ⟨_, rfl, ?_⟩
    have sc : ∀ b, b ≠ hn h → sm h (cpR (nw h 108 cap.toNat cap.toNat) e (hn h) 0 0 (hL h e)) b := fun b hb => (sm_nw hb).trans (sm_cpR hb)
    have sl := sc l nhl
    refine ⟨rfl, by show hc h ≤ (hc h - 1) + 1; omega, by show hs h ≤ (hs h - cap.toNat) + 200; omega, fun b h1 h2 => (sc b h1).trans (sm_wR h2), by rw [hK_wR, sl.1]; exact a.k, by rw [hL_wR, sl.2.1], by rw [hI_wR, sl.2.2.1], by rw [hJ_wR, sl.2.2.2.1], by rw [hR_wR, if_pos ⟨rfl, rfl⟩], fun j hj => by rw [hR_wR, if_neg (by omega), sl.2.2.2.2], by rw [hK_wR, hK_cpR, hK_nw, if_pos rfl], by rw [hL_wR, hL_cpR, hL_nw, if_pos rfl]; omega, fun i hi => ?_⟩
    rw [hR_wR, if_neg (by omega), hR_cpR, if_pos rfl]
    unfold va_cpy
    rw [if_pos (by omega), show 0 + (i - 0) = i by omega, hR_nw, if_neg nhe]
  · subst c1
    have e1 : (hR h 0 0) = some e := c4
    have nhl : l ≠ hn h := by omega
    unfold F_J2_grow_2
    simp (disch := omega) only [i_lit, i_neg, i_add, i_sub, i_mul, i_ofNat, i_div, i_le, i_lt, i_eq, i_ix, i_inb, i_max, i_min, e_rem, j_lit, j_i, Int.reduceToNat, Int.reduceAdd, Int.reduceSub, Int.reduceMul, Int.reduceNeg, Int.reduceLT, Int.reduceLE, Int.reduceEq, gd_t, gd_T, bd_t, lh_t, on_s, on_n, ec_l, ec_r, if_true, if_false, true_and, and_true, false_and, and_false, true_or, or_true, false_or, or_false, Bool.false_eq_true, b2i_0, b2i_1, bl_0, bl_1, bl_b2, not_true_eq_false, not_false_eq_true, a.k, a.r, c2, c3, e1, hK_nw, hL_nw, hn_nw, Int.natCast_zero, nhl]
    rw [show (max (10 : Int) 1) = 10 from rfl, gd_t _ ⟨by decide, by decide, g.1, by show 10 ≤ hs h; omega⟩]
    refine ⟨_, rfl, ?_⟩
    show GW h (wR (nw h 108 10 10) l 1 (some (hn h))) l e 0
    refine ⟨rfl, by rw [hc_wR, hc_nw]; omega, by rw [hs_wR, hs_nw]; omega, fun b h1 h2 => (sm_nw h1).trans (sm_wR h2), by rw [hK_wR, hK_nw, if_neg nhl]; exact a.k, by rw [hL_wR, hL_nw, if_neg nhl], by rw [hI_wR]; exact (sm_nw nhl).2.2.1, by rw [hJ_wR]; exact (sm_nw nhl).2.2.2.1, by rw [hR_wR, if_pos ⟨rfl, rfl⟩], fun j hj => by rw [hR_wR, if_neg (by omega), hR_nw, if_neg nhl], by rw [hK_wR, hK_nw, if_pos rfl], by rw [hL_wR, hL_nw, if_pos rfl]; omega, fun i hi => by omega⟩
/-- what adding leaves -/
def AW (h h' : AH) (l e e' : Nat) (n : Int) (a : Nat) : Prop := AL h' l e' (n + 1) ∧ (∀ i : Nat, (i : Int) < n → hR h' e' i = hR h e i) ∧ hR h' e' n.toNat = some a ∧ hK h' e' = 108 ∧ (e' = e ∨ e' = hn h) ∧ hn h ≤ hn h' ∧ hn h' ≤ hn h + 1 ∧ hc h ≤ hc h' + 1 ∧ hs h ≤ hs h' + 200 ∧ (∀ b, b ≠ l → b ≠ e → b ≠ hn h → sm h h' b) ∧ (∀ b, b < hn h → hK h' b = hK h b) ∧ (hK h e = 120 → sm h h' e) ∧ (∀ b, hn h' ≤ b → hK h' b = hK h b) ∧ (hn h' = hn h ∨ hK h' (hn h) = 108) ∧ (hn h' = hn h → e' = e)
theorem add_eq {h : AH} {l e : Nat} {n : Int} (a : AL h l e n) {v : Nat} (h100 : n ≤ 100) (ov : okE (hK h v)) (ok : ∀ i : Nat, (i : Int) < n → okOb h (hR h e i) = true) (g : 1 ≤ hc h ∧ 200 ≤ hs h) (hl : l < hn h) (he : e < hn h) (hv : v < hn h) (hk0 : ∀ b, hn h ≤ b → hK h b = 0) : ∃ h' e', F_J2_add h l v = some (iI 1, h') ∧ AW h h' l e e' n v := by
  have hp := a.p
  have ne := a.ne
  generalize hm : wI h l 0 (hI h l 0 + iI 1) = h1
  have s1 : ∀ b, b ≠ l → sm h h1 b := fun b hb => by rw [← hm]; exact sm_wI hb
  have kk : hK h1 = hK h := by rw [← hm]; rfl
  have kL : hL h1 = hL h := by rw [← hm]; rfl
  have kR : hR h1 = hR h := by rw [← hm]; rfl
  have kn : hn h1 = hn h := by rw [← hm]; rfl
  have i2 : hI h1 l 2 = iI n := by rw [← hm, hI_wI, if_neg (by omega)]; exact a.n
  have a1 : AL h1 l e n := ⟨by rw [kk]; exact a.k, i2, by rw [kR]; exact a.r, a.p, by rw [kk, kL, kR]; exact a.c⟩
  have hce : hK h e = 108 ∨ hK h e = 120 := by rcases a.c with w | w <;> omega
  have hvn : v ≠ hn h := by omega
  unfold F_J2_add F_J2_add_2
  by_cases q : n = hL h e
  · obtain ⟨h2, f1, f2, f3, f4, f5, f6, f7, f8, f9, f10, f11, f12, f13, f14⟩ := grow_eq a1 (by rw [kL]; exact q) h100 (fun i hi => by
      have := ok i hi
      unfold okOb at this ⊢
      rw [kR, kk]
      exact this) (by rw [← hm]; exact g) (by rw [kn]; exact hl) (by rw [kn]; exact he) (by rw [kn, kk]; exact hk0)
    rw [kn] at f1 f2 f5 f10 f12 f13 f14
    have qT : (n = ((hL h e : Nat) : Int)) = True := eq_true q
    have kv : hK h2 v = hK h v := by rw [(f5 v hvn (fun w => by have := a.k; rw [← w] at this; unfold okE at ov; omega)).1, kk]
    have kl2 : hK h2 l = 32 := f6
    have okT : okE (hK h2 v) = True := eq_true (by rw [kv]; exact ov)
    have dj : (hK h e = 108 ∨ hK h e = 120) = True := eq_true hce
    unfold F_J2_grow B_J2_add_2_11
    simp (disch := omega) only [i_lit, i_neg, i_add, i_sub, i_mul, i_ofNat, i_div, i_le, i_lt, i_eq, i_ix, i_inb, i_max, i_min, e_rem, j_lit, j_i, Int.reduceToNat, Int.reduceAdd, Int.reduceSub, Int.reduceMul, Int.reduceNeg, Int.reduceLT, Int.reduceLE, Int.reduceEq, gd_t, gd_T, bd_t, lh_t, on_s, on_n, ec_l, ec_r, if_true, if_false, true_and, and_true, false_and, and_false, true_or, or_true, false_or, or_false, Bool.false_eq_true, b2i_0, b2i_1, bl_0, bl_1, bl_b2, not_true_eq_false, not_false_eq_true, hK_wI, hR_wI, hL_wI, a.k, a.r, hm, i2, kk, kL, kR, dj, qT, f1, f12, okT, hK_wR, kl2]
    generalize hG : wI (wR h2 (hn h) n.toNat (some v)) l 2 (iI (n + 1)) = G
    have lne : l ≠ hn h := by omega
    have ene : e ≠ hn h := by omega
    have sG : ∀ b, b ≠ l → b ≠ hn h → sm h G b := fun b h1 h2 => by rw [← hG]; exact ((s1 b h1).trans (f5 b h2 h1)).trans ((sm_wR h2).trans (sm_wI h1))
    have kG : hK G = hK h2 := by rw [← hG]; rfl
    have lG : hL G = hL h2 := by rw [← hG]; rfl
    have nG : hn G = hn h + 1 := by rw [← hG]; exact f2
    have rG : ∀ b j, hR G b j = if b = hn h ∧ j = n.toNat then some v else hR h2 b j := fun b j => by rw [← hG, hR_wI, hR_wR]
    refine ⟨G, hn h, rfl, ⟨by rw [kG]; exact f6, by rw [← hG, hI_wI, if_pos ⟨rfl, rfl⟩], by rw [rG, if_neg (by omega)]; exact f10, by omega, Or.inl (by rw [kG, lG]; omega)⟩, fun i hi => by rw [rG, if_neg (by omega), f14 i hi, kR], by rw [rG, if_pos ⟨rfl, rfl⟩], by rw [kG]; exact f12, Or.inr rfl, by omega, by omega, ?_, ?_, fun b h1 h2 h3 => sG b h1 h3, fun b hb => ?_, fun w => sG e (fun q => ne q.symm) ene, fun b hb => ?_, Or.inr (by rw [kG]; exact f12), fun w => by omega⟩
    · rw [← hG]
      show hc h ≤ hc h2 + 1
      rw [← hm] at f3
      exact f3
    · rw [← hG]
      show hs h ≤ hs h2 + 200
      rw [← hm] at f4
      exact f4
    · by_cases w : b = l
      · rw [w, kG, f6]; exact a.k.symm
      · exact (sG b w (by omega)).1
    · exact (sG b (by omega) (by omega)).1
  · have c1 : hK h e = 108 ∧ n < hL h e ∧ hL h e ≤ 200 ∧ 10 ≤ hL h e := by rcases a.c with w | w <;> omega
    have qF : (n = ((hL h e : Nat) : Int)) = False := eq_false q
    have okT : okE (hK h v) = True := eq_true ov
    unfold B_J2_add_2_11
    simp (disch := omega) only [i_lit, i_neg, i_add, i_sub, i_mul, i_ofNat, i_div, i_le, i_lt, i_eq, i_ix, i_inb, i_max, i_min, e_rem, j_lit, j_i, Int.reduceToNat, Int.reduceAdd, Int.reduceSub, Int.reduceMul, Int.reduceNeg, Int.reduceLT, Int.reduceLE, Int.reduceEq, gd_t, gd_T, bd_t, lh_t, on_s, on_n, ec_l, ec_r, if_true, if_false, true_and, and_true, false_and, and_false, true_or, or_true, false_or, or_false, Bool.false_eq_true, b2i_0, b2i_1, bl_0, bl_1, bl_b2, not_true_eq_false, not_false_eq_true, hK_wI, hR_wI, hL_wI, a.k, a.r, hm, i2, kk, kL, kR, c1.1, qF, okT, hK_wR]
    generalize hG : wI (wR h1 e n.toNat (some v)) l 2 (iI (n + 1)) = G
    have sG : ∀ b, b ≠ l → b ≠ e → sm h G b := fun b h1 h2 => by rw [← hG]; exact (s1 b h1).trans ((sm_wR h2).trans (sm_wI h1))
    have kG : hK G = hK h := by rw [← hG]; exact kk
    have lG : hL G = hL h := by rw [← hG]; exact kL
    have nG : hn G = hn h := by rw [← hG]; exact kn
    have rG : ∀ b j, hR G b j = if b = e ∧ j = n.toNat then some v else hR h b j := fun b j => by rw [← hG, hR_wI, hR_wR, kR]
    refine ⟨G, e, rfl, ⟨by rw [kG]; exact a.k, by rw [← hG, hI_wI, if_pos ⟨rfl, rfl⟩], by rw [rG, if_neg (by omega)]; exact a.r, by omega, Or.inl (by rw [kG, lG]; omega)⟩, fun i hi => by rw [rG, if_neg (by omega)], by rw [rG, if_pos ⟨rfl, rfl⟩], by rw [kG]; exact c1.1, Or.inl rfl, by omega, by omega, by rw [← hG]; show hc h ≤ hc h1 + 1; rw [← hm]; show hc h ≤ hc h + 1; omega, by rw [← hG]; show hs h ≤ hs h1 + 200; rw [← hm]; show hs h ≤ hs h + 200; omega, fun b h1 h2 _ => sG b h1 h2, fun b _ => by rw [kG], fun w => by omega, fun b _ => by rw [kG], Or.inl nG, fun _ => rfl⟩
