/-! PURE P: the whole relation between both -/
set_option maxRecDepth 100000
/-- an image -/
def IMP (o : Nat → Nat) (hC hT : AH) (z m i : Nat) : Prop := (hI hT (m + 5) i = iI 0 ∧ hR hC (z + 269) i = none) ∨ (hI hT (m + 5) i = iI 1 ∧ ∃ (x : Nat) (e : Nat → Nat) (el : Nat → Nat → Nat) (lw : Nat), hR hC (z + 269) i = some x ∧ CrP o (3 + i) hC x (fun k => (hI hT (m + 2) (3179 * i + k)).toInt) (fun k => hJ hT (m + 4) (9 * i + k)) e el lw)
/-- a tray -/
def TRP (o : Nat → Nat) (hC hT : AH) (z m i : Nat) : Prop := (hI hT (m + 18) i = iI (-1) ∧ hR hC (z + 440 + i) 0 = none) ∨ (∃ (so : Int) (n row : Nat), hI hT (m + 18) i = iI so ∧ (0 ≤ so ∧ so ≤ 3) ∧ hI hT (m + 19) i = iI n ∧ n ≤ 28 ∧ hR hC (z + 440 + i) 0 = some row ∧ o row = 70 + i ∧ hL hC row = n ∧
  ((so = 0 ∧ hK hC row = 101 ∧ ∀ k, k < n → hJ hT (m + 20) (28 * i + k) = (hI hC row k).toInt64) ∨ (so = 1 ∧ hK hC row = 103 ∧ ∀ k, k < n → hJ hT (m + 20) (28 * i + k) = (hI hC row k).toInt64) ∨ (so = 2 ∧ hK hC row = 100 ∧ ∀ k, k < n → hJ hT (m + 20) (28 * i + k) = (hI hC row k).toInt64) ∨ (so = 3 ∧ hK hC row = 102 ∧ ∀ k, k < n → hJ hT (m + 20) (28 * i + k) = hJ hC row k)))
/-- both sides agree -/
def RL (o : Nat → Nat) (hC hT : AH) (z m x : Nat) (τ : Nat → Int) (υ : Nat → Int64) (e : Nat → Nat) (el : Nat → Nat → Nat) (lw : Nat) : Prop :=
  m = z + 474 ∧
  CS hC z ∧
  hR hC z 0 = some x ∧
  OW o z ∧
  CrP o 2 hC x τ υ e el lw ∧
  TN hT m τ ∧
  (∀ i, hJ hT (m + 3) i = υ i) ∧
  (∀ i : Nat, i < 3 → IMP o hC hT z m i) ∧
  (∀ i : Nat, i < 4 → TRP o hC hT z m i) ∧
  (∃ T : Nat, T ≤ 400 ∧ hI hC z 3 = iI T ∧ hI hT m 9 = iI T ∧ ∀ k : Nat, k < T → ∃ b : Nat, b < 256 ∧ hI hT (m + 6) k = iI b ∧ hI hC (z + 270) k = Int8.toInt32 (Int32.toInt8 (iI b))) ∧
  hI hC z 4 = hI hT m 18 ∧
  hI hC z 5 = hI hT m 19 ∧
  hJ hC z 11 = hJ hT m 26 ∧
  hJ hC z 12 = hJ hT m 27 ∧
  (∀ a, hn hC ≤ a → hK hC a = 0 ∧ o a = 0) ∧
  (z + 496 ≤ hn hC ∧ 0 < z) ∧
  (∃ ε, hR hC 0 0 = some ε ∧ hK hC ε = 120 ∧ hL hC ε = 0) ∧
  (∀ a, hK hC a = 120 → o a = 7) ∧
  o 0 = 7
theorem RL.m {o : Nat → Nat} {hC hT : AH} {z m x : Nat} {τ : Nat → Int} {υ : Nat → Int64} {e : Nat → Nat} {el : Nat → Nat → Nat} {lw : Nat} (t_ : RL o hC hT z m x τ υ e el lw) : m = z + 474 := t_.1
theorem RL.cs {o : Nat → Nat} {hC hT : AH} {z m x : Nat} {τ : Nat → Int} {υ : Nat → Int64} {e : Nat → Nat} {el : Nat → Nat → Nat} {lw : Nat} (t_ : RL o hC hT z m x τ υ e el lw) : CS hC z := t_.2.1
theorem RL.hz {o : Nat → Nat} {hC hT : AH} {z m x : Nat} {τ : Nat → Int} {υ : Nat → Int64} {e : Nat → Nat} {el : Nat → Nat → Nat} {lw : Nat} (t_ : RL o hC hT z m x τ υ e el lw) : hR hC z 0 = some x := t_.2.2.1
theorem RL.ow {o : Nat → Nat} {hC hT : AH} {z m x : Nat} {τ : Nat → Int} {υ : Nat → Int64} {e : Nat → Nat} {el : Nat → Nat → Nat} {lw : Nat} (t_ : RL o hC hT z m x τ υ e el lw) : OW o z := t_.2.2.2.1
theorem RL.c {o : Nat → Nat} {hC hT : AH} {z m x : Nat} {τ : Nat → Int} {υ : Nat → Int64} {e : Nat → Nat} {el : Nat → Nat → Nat} {lw : Nat} (t_ : RL o hC hT z m x τ υ e el lw) : CrP o 2 hC x τ υ e el lw := t_.2.2.2.2.1
theorem RL.tn {o : Nat → Nat} {hC hT : AH} {z m x : Nat} {τ : Nat → Int} {υ : Nat → Int64} {e : Nat → Nat} {el : Nat → Nat → Nat} {lw : Nat} (t_ : RL o hC hT z m x τ υ e el lw) : TN hT m τ := t_.2.2.2.2.2.1
theorem RL.tj {o : Nat → Nat} {hC hT : AH} {z m x : Nat} {τ : Nat → Int} {υ : Nat → Int64} {e : Nat → Nat} {el : Nat → Nat → Nat} {lw : Nat} (t_ : RL o hC hT z m x τ υ e el lw) : ∀ i, hJ hT (m + 3) i = υ i := t_.2.2.2.2.2.2.1
theorem RL.im {o : Nat → Nat} {hC hT : AH} {z m x : Nat} {τ : Nat → Int} {υ : Nat → Int64} {e : Nat → Nat} {el : Nat → Nat → Nat} {lw : Nat} (t_ : RL o hC hT z m x τ υ e el lw) : ∀ i : Nat, i < 3 → IMP o hC hT z m i := t_.2.2.2.2.2.2.2.1
theorem RL.tr {o : Nat → Nat} {hC hT : AH} {z m x : Nat} {τ : Nat → Int} {υ : Nat → Int64} {e : Nat → Nat} {el : Nat → Nat → Nat} {lw : Nat} (t_ : RL o hC hT z m x τ υ e el lw) : ∀ i : Nat, i < 4 → TRP o hC hT z m i := t_.2.2.2.2.2.2.2.2.1
theorem RL.tp {o : Nat → Nat} {hC hT : AH} {z m x : Nat} {τ : Nat → Int} {υ : Nat → Int64} {e : Nat → Nat} {el : Nat → Nat → Nat} {lw : Nat} (t_ : RL o hC hT z m x τ υ e el lw) : ∃ T : Nat, T ≤ 400 ∧ hI hC z 3 = iI T ∧ hI hT m 9 = iI T ∧ ∀ k : Nat, k < T → ∃ b : Nat, b < 256 ∧ hI hT (m + 6) k = iI b ∧ hI hC (z + 270) k = Int8.toInt32 (Int32.toInt8 (iI b)) := t_.2.2.2.2.2.2.2.2.2.1
theorem RL.f4 {o : Nat → Nat} {hC hT : AH} {z m x : Nat} {τ : Nat → Int} {υ : Nat → Int64} {e : Nat → Nat} {el : Nat → Nat → Nat} {lw : Nat} (t_ : RL o hC hT z m x τ υ e el lw) : hI hC z 4 = hI hT m 18 := t_.2.2.2.2.2.2.2.2.2.2.1
theorem RL.f5 {o : Nat → Nat} {hC hT : AH} {z m x : Nat} {τ : Nat → Int} {υ : Nat → Int64} {e : Nat → Nat} {el : Nat → Nat → Nat} {lw : Nat} (t_ : RL o hC hT z m x τ υ e el lw) : hI hC z 5 = hI hT m 19 := t_.2.2.2.2.2.2.2.2.2.2.2.1
theorem RL.j11 {o : Nat → Nat} {hC hT : AH} {z m x : Nat} {τ : Nat → Int} {υ : Nat → Int64} {e : Nat → Nat} {el : Nat → Nat → Nat} {lw : Nat} (t_ : RL o hC hT z m x τ υ e el lw) : hJ hC z 11 = hJ hT m 26 := t_.2.2.2.2.2.2.2.2.2.2.2.2.1
theorem RL.j12 {o : Nat → Nat} {hC hT : AH} {z m x : Nat} {τ : Nat → Int} {υ : Nat → Int64} {e : Nat → Nat} {el : Nat → Nat → Nat} {lw : Nat} (t_ : RL o hC hT z m x τ υ e el lw) : hJ hC z 12 = hJ hT m 27 := t_.2.2.2.2.2.2.2.2.2.2.2.2.2.1
theorem RL.ho {o : Nat → Nat} {hC hT : AH} {z m x : Nat} {τ : Nat → Int} {υ : Nat → Int64} {e : Nat → Nat} {el : Nat → Nat → Nat} {lw : Nat} (t_ : RL o hC hT z m x τ υ e el lw) : ∀ a, hn hC ≤ a → hK hC a = 0 ∧ o a = 0 := t_.2.2.2.2.2.2.2.2.2.2.2.2.2.2.1
theorem RL.hnz {o : Nat → Nat} {hC hT : AH} {z m x : Nat} {τ : Nat → Int} {υ : Nat → Int64} {e : Nat → Nat} {el : Nat → Nat → Nat} {lw : Nat} (t_ : RL o hC hT z m x τ υ e el lw) : z + 496 ≤ hn hC ∧ 0 < z := t_.2.2.2.2.2.2.2.2.2.2.2.2.2.2.2.1
theorem RL.hε {o : Nat → Nat} {hC hT : AH} {z m x : Nat} {τ : Nat → Int} {υ : Nat → Int64} {e : Nat → Nat} {el : Nat → Nat → Nat} {lw : Nat} (t_ : RL o hC hT z m x τ υ e el lw) : ∃ ε, hR hC 0 0 = some ε ∧ hK hC ε = 120 ∧ hL hC ε = 0 := t_.2.2.2.2.2.2.2.2.2.2.2.2.2.2.2.2.1
theorem RL.h7 {o : Nat → Nat} {hC hT : AH} {z m x : Nat} {τ : Nat → Int} {υ : Nat → Int64} {e : Nat → Nat} {el : Nat → Nat → Nat} {lw : Nat} (t_ : RL o hC hT z m x τ υ e el lw) : ∀ a, hK hC a = 120 → o a = 7 := t_.2.2.2.2.2.2.2.2.2.2.2.2.2.2.2.2.2.1
theorem RL.o0 {o : Nat → Nat} {hC hT : AH} {z m x : Nat} {τ : Nat → Int} {υ : Nat → Int64} {e : Nat → Nat} {el : Nat → Nat → Nat} {lw : Nat} (t_ : RL o hC hT z m x τ υ e el lw) : o 0 = 7 := t_.2.2.2.2.2.2.2.2.2.2.2.2.2.2.2.2.2.2
/-- cells of the component that hold nothing between two calls -/
def scr (z a : Nat) : Prop := (z + 273 ≤ a ∧ a ≤ z + 438) ∨ (z + 444 ≤ a ∧ a ≤ z + 473)
/-- the component's heap, changed at most where nothing is kept -/
def cS (z : Nat) (h h' : AH) : Prop := hn h' = hn h ∧ hK h' = hK h ∧ hL h' = hL h ∧ hR h' = hR h ∧ (∀ a, ¬ (a = z ∨ scr z a ∨ (z + 474 ≤ a ∧ a ≤ z + 495)) → sm h h' a) ∧ hI h' z 3 = hI h z 3 ∧ hI h' z 4 = hI h z 4 ∧ hI h' z 5 = hI h z 5 ∧ hJ h' z 11 = hJ h z 11 ∧ hJ h' z 12 = hJ h z 12
/-- the reference's heap, changed at most where nothing is kept -/
def tS (m : Nat) (h h' : AH) : Prop := TS h' m ∧ (∀ a, ((m + 1 ≤ a ∧ a ≤ m + 6) ∨ (m + 18 ≤ a ∧ a ≤ m + 20)) → hI h' a = hI h a ∧ hJ h' a = hJ h a) ∧ hI h' m 9 = hI h m 9 ∧ hI h' m 18 = hI h m 18 ∧ hI h' m 19 = hI h m 19 ∧ hJ h' m 26 = hJ h m 26 ∧ hJ h' m 27 = hJ h m 27
theorem IMP.frC {o : Nat → Nat} {hC hC' hT : AH} {z m i : Nat} (p : IMP o hC hT z m i) (hr : hR hC' (z + 269) i = hR hC (z + 269) i) (fr : ∀ (x : Nat) (τ : Nat → Int) (υ : Nat → Int64) (e : Nat → Nat) (el : Nat → Nat → Nat) (lw : Nat), CrP o (3 + i) hC x τ υ e el lw → CrP o (3 + i) hC' x τ υ e el lw) : IMP o hC' hT z m i := by
  rcases p with ⟨p1, p2⟩ | ⟨p1, x, e, el, lw, p2, p3⟩
  · exact Or.inl ⟨p1, by rw [hr]; exact p2⟩
  · exact Or.inr ⟨p1, x, e, el, lw, by rw [hr]; exact p2, fr _ _ _ _ _ _ p3⟩
theorem IMP.frC2 {o o' : Nat → Nat} {hC hC' hT : AH} {z m i : Nat} (p : IMP o hC hT z m i) (hr : hR hC' (z + 269) i = hR hC (z + 269) i) (fr : ∀ (x : Nat) (τ : Nat → Int) (υ : Nat → Int64) (e : Nat → Nat) (el : Nat → Nat → Nat) (lw : Nat), CrP o (3 + i) hC x τ υ e el lw → CrP o' (3 + i) hC' x τ υ e el lw) : IMP o' hC' hT z m i := by
  rcases p with ⟨p1, p2⟩ | ⟨p1, x, e, el, lw, p2, p3⟩
  · exact Or.inl ⟨p1, by rw [hr]; exact p2⟩
  · exact Or.inr ⟨p1, x, e, el, lw, by rw [hr]; exact p2, fr _ _ _ _ _ _ p3⟩
theorem IMP.frT {o : Nat → Nat} {hC hT hT' : AH} {z m i : Nat} (p : IMP o hC hT z m i) (h2 : hI hT' (m + 2) = hI hT (m + 2)) (h4 : hJ hT' (m + 4) = hJ hT (m + 4)) (h5 : hI hT' (m + 5) = hI hT (m + 5)) : IMP o hC hT' z m i := by
  unfold IMP at p ⊢
  rw [h2, h4, h5]
  exact p
theorem TRP.frC {o : Nat → Nat} {hC hC' hT : AH} {z m i : Nat} (p : TRP o hC hT z m i) (hr : hR hC' (z + 440 + i) 0 = hR hC (z + 440 + i) 0) (fr : ∀ a, o a = 70 + i → sm hC hC' a) : TRP o hC' hT z m i := by
  rcases p with ⟨p1, p2⟩ | ⟨so, n, row, p1, p2, p3, p4, p5, p6, p7, p8⟩
  · exact Or.inl ⟨p1, by rw [hr]; exact p2⟩
  · have s := fr row p6
    refine Or.inr ⟨so, n, row, p1, p2, p3, p4, by rw [hr]; exact p5, p6, by rw [s.2.1]; exact p7, ?_⟩
    rw [s.1, s.2.2.1, s.2.2.2.1]
    exact p8
theorem TRP.frC2 {o o' : Nat → Nat} {hC hC' hT : AH} {z m i : Nat} (p : TRP o hC hT z m i) (hr : hR hC' (z + 440 + i) 0 = hR hC (z + 440 + i) 0) (fr : ∀ a, o a = 70 + i → sm hC hC' a ∧ o' a = 70 + i) : TRP o' hC' hT z m i := by
  rcases p with ⟨p1, p2⟩ | ⟨so, n, row, p1, p2, p3, p4, p5, p6, p7, p8⟩
  · exact Or.inl ⟨p1, by rw [hr]; exact p2⟩
  · have s := fr row p6
    refine Or.inr ⟨so, n, row, p1, p2, p3, p4, by rw [hr]; exact p5, s.2, by rw [s.1.2.1]; exact p7, ?_⟩
    rw [s.1.1, s.1.2.2.1, s.1.2.2.2.1]
    exact p8
theorem TRP.frT {o : Nat → Nat} {hC hT hT' : AH} {z m i : Nat} (p : TRP o hC hT z m i) (h18 : hI hT' (m + 18) = hI hT (m + 18)) (h19 : hI hT' (m + 19) = hI hT (m + 19)) (h20 : hJ hT' (m + 20) = hJ hT (m + 20)) : TRP o hC hT' z m i := by
  unfold TRP at p ⊢
  rw [h18, h19, h20]
  exact p
theorem RL.scT {o : Nat → Nat} {hC hT hT' : AH} {z m x : Nat} {τ : Nat → Int} {υ : Nat → Int64} {e : Nat → Nat} {el : Nat → Nat → Nat} {lw : Nat} (r : RL o hC hT z m x τ υ e el lw) (s : tS m hT hT') : RL o hC hT' z m x τ υ e el lw := by
  obtain ⟨s0, s1, s2, s3, s4, s5, s6⟩ := s
  have w := fun j (hj : (1 ≤ j ∧ j ≤ 6) ∨ (18 ≤ j ∧ j ≤ 20)) => s1 (m + j) (by omega)
  obtain ⟨T, t1, t2, t3, t4⟩ := r.tp
  refine ⟨r.m, r.cs, r.hz, r.ow, r.c, ⟨s0, fun i => by rw [(w 1 (by omega)).1]; exact r.tn.i i, r.tn.g⟩, fun i => by rw [(w 3 (by omega)).2]; exact r.tj i, fun i hi => (r.im i hi).frT (w 2 (by omega)).1 (w 4 (by omega)).2 (w 5 (by omega)).1, fun i hi => (r.tr i hi).frT (w 18 (by omega)).1 (w 19 (by omega)).1 (w 20 (by omega)).2, ⟨T, t1, t2, by rw [s2]; exact t3, fun k hk => ?_⟩, by rw [s3]; exact r.f4, by rw [s4]; exact r.f5, by rw [s5]; exact r.j11, by rw [s6]; exact r.j12, r.ho, r.hnz, r.hε, r.h7, r.o0⟩
  rw [(w 6 (by omega)).1]
  exact t4 k hk
theorem RL.nk {o : Nat → Nat} {hC hT : AH} {z m x : Nat} {τ : Nat → Int} {υ : Nat → Int64} {e : Nat → Nat} {el : Nat → Nat → Nat} {lw : Nat} (r : RL o hC hT z m x τ υ e el lw) {a : Nat} (ha : a = z ∨ scr z a) : ¬ imK (hK hC a) ∧ hK hC a ≠ 120 := by
  have h7 := r.h7 a
  have ho := r.ow a (by rcases ha with q | q | q <;> omega)
  have hk : hK hC a ≠ 120 := fun q => by have := h7 q; omega
  refine ⟨?_, hk⟩
  have cs := r.cs
  rcases ha with rfl | ha
  · rw [cs.k]; unfold imK; omega
  · have key : hK hC a = 100 ∨ hK hC a = 105 ∨ hK hC a = 107 ∨ hK hC a = 102 ∨ hK hC a = 6 := by
      unfold scr at ha
      rcases (show a = z + 273 ∨ a = z + 274 ∨ a = z + 275 ∨ a = z + 276 ∨ (∃ i, i < 8 ∧ a = z + 276 + 1 + i) ∨ a = z + 285 ∨ (∃ i, i < 8 ∧ a = z + 285 + 1 + i) ∨ a = z + 294 ∨ (∃ i, i < 41 ∧ a = z + 294 + 1 + i) ∨ a = z + 336 ∨ (∃ i, i < 41 ∧ a = z + 336 + 1 + i) ∨ a = z + 378 ∨ (∃ i, i < 41 ∧ a = z + 378 + 1 + i) ∨ a = z + 420 ∨ a = z + 421 ∨ (∃ i, i < 8 ∧ a = z + 421 + 1 + i) ∨ a = z + 430 ∨ (∃ i, i < 8 ∧ a = z + 430 + 1 + i) ∨ a = z + 444 ∨ (∃ i, i < 29 ∧ a = z + 444 + 1 + i) by
        by_cases q : a = z + 273 ∨ a = z + 274 ∨ a = z + 275 ∨ a = z + 276 ∨ a = z + 285 ∨ a = z + 294 ∨ a = z + 336 ∨ a = z + 378 ∨ a = z + 420 ∨ a = z + 421 ∨ a = z + 430 ∨ a = z + 444
        · rcases q with q | q | q | q | q | q | q | q | q | q | q | q <;> simp [q]
        · by_cases q1 : a ≤ z + 284
          · exact Or.inr (Or.inr (Or.inr (Or.inr (Or.inl ⟨a - (z + 277), by omega, by omega⟩))))
          by_cases q2 : a ≤ z + 293
          · exact Or.inr (Or.inr (Or.inr (Or.inr (Or.inr (Or.inr (Or.inl ⟨a - (z + 286), by omega, by omega⟩))))))
          by_cases q3 : a ≤ z + 335
          · exact Or.inr (Or.inr (Or.inr (Or.inr (Or.inr (Or.inr (Or.inr (Or.inr (Or.inl ⟨a - (z + 295), by omega, by omega⟩))))))))
          by_cases q4 : a ≤ z + 377
          · exact Or.inr (Or.inr (Or.inr (Or.inr (Or.inr (Or.inr (Or.inr (Or.inr (Or.inr (Or.inr (Or.inl ⟨a - (z + 337), by omega, by omega⟩))))))))))
          by_cases q5 : a ≤ z + 419
          · exact Or.inr (Or.inr (Or.inr (Or.inr (Or.inr (Or.inr (Or.inr (Or.inr (Or.inr (Or.inr (Or.inr (Or.inr (Or.inl ⟨a - (z + 379), by omega, by omega⟩))))))))))))
          by_cases q6 : a ≤ z + 429
          · exact Or.inr (Or.inr (Or.inr (Or.inr (Or.inr (Or.inr (Or.inr (Or.inr (Or.inr (Or.inr (Or.inr (Or.inr (Or.inr (Or.inr (Or.inr (Or.inl ⟨a - (z + 422), by omega, by omega⟩)))))))))))))))
          by_cases q7 : a ≤ z + 438
          · exact Or.inr (Or.inr (Or.inr (Or.inr (Or.inr (Or.inr (Or.inr (Or.inr (Or.inr (Or.inr (Or.inr (Or.inr (Or.inr (Or.inr (Or.inr (Or.inr (Or.inr (Or.inl ⟨a - (z + 431), by omega, by omega⟩)))))))))))))))))
          · exact Or.inr (Or.inr (Or.inr (Or.inr (Or.inr (Or.inr (Or.inr (Or.inr (Or.inr (Or.inr (Or.inr (Or.inr (Or.inr (Or.inr (Or.inr (Or.inr (Or.inr (Or.inr (Or.inr ⟨a - (z + 445), by omega, by omega⟩))))))))))))))))))) with q | q | q | q | ⟨i, hi, q⟩ | q | ⟨i, hi, q⟩ | q | ⟨i, hi, q⟩ | q | ⟨i, hi, q⟩ | q | ⟨i, hi, q⟩ | q | q | ⟨i, hi, q⟩ | q | ⟨i, hi, q⟩ | q | ⟨i, hi, q⟩
      · rw [q, cs.k273]; omega
      · rw [q, cs.k274]; omega
      · rw [q, cs.k275]; omega
      · rw [q, cs.k276]; omega
      · rw [q, (cs.w276 i hi).2.1]; omega
      · rw [q, cs.k285]; omega
      · rw [q, (cs.w285 i hi).2.1]; omega
      · rw [q, cs.k294]; omega
      · rw [q, (cs.w294 i hi).2.1]; omega
      · rw [q, cs.k336]; omega
      · rw [q, (cs.w336 i hi).2.1]; omega
      · rw [q, cs.k378]; omega
      · rw [q, (cs.w378 i hi).2.1]; omega
      · rw [q, cs.k420]; omega
      · rw [q, cs.k421]; omega
      · rw [q, (cs.w421 i hi).2.1]; omega
      · rw [q, cs.k430]; omega
      · rw [q, (cs.w430 i hi).2.1]; omega
      · rw [q, cs.k444]; omega
      · rw [q, (cs.w444 i hi).2.1]; omega
    unfold imK
    omega
theorem RL.scC {o : Nat → Nat} {hC hC' hT : AH} {z m x : Nat} {τ : Nat → Int} {υ : Nat → Int64} {e : Nat → Nat} {el : Nat → Nat → Nat} {lw : Nat} (r : RL o hC hT z m x τ υ e el lw) (ht : ∀ a, z + 474 ≤ a → a ≤ z + 495 → ¬ imK (hK hC a)) (s : cS z hC hC') : RL o hC' hT z m x τ υ e el lw := by
  obtain ⟨s0, s1, s2, s3, s4, s5, s6, s7, s8, s9⟩ := s
  have nf : ∀ a, o a ≠ 1 → ¬ (a = z ∨ scr z a ∨ (z + 474 ≤ a ∧ a ≤ z + 495)) := by
    intro a ha q
    refine ha (r.ow a ?_)
    unfold scr at q
    omega
  have fim : ∀ a, imK (hK hC a) → sm hC hC' a := by
    intro a ha
    refine s4 a ?_
    rintro (q | q | q)
    · exact (r.nk (Or.inl q)).1 ha
    · exact (r.nk (Or.inr q)).1 ha
    · exact ht a q.1 q.2 ha
  have fo : ∀ a, o a ≠ 1 → sm hC hC' a := fun a ha => s4 a (nf a ha)
  have crf : ∀ (t x : Nat) (τ : Nat → Int) (υ : Nat → Int64) (e : Nat → Nat) (el : Nat → Nat → Nat) (lw : Nat), t ≠ 1 → CrP o t hC x τ υ e el lw → CrP o t hC' x τ υ e el lw := fun t x τ υ e el lw ht c => c.fr fim (fun a q => ⟨fo a (by omega), q⟩) (fun a q => ⟨fo a (by have := r.h7 a q; omega), fun w => w⟩) (by rw [s3]) (fun a q => ⟨fo a (by omega), q⟩)
  obtain ⟨T, t1, t2, t3, t4⟩ := r.tp
  have hm := r.m
  refine ⟨r.m, ?_, by rw [s3]; exact r.hz, r.ow, crf _ _ _ _ _ _ _ (by omega) r.c, r.tn, r.tj, fun i hi => (r.im i hi).frC (by rw [s3]) (fun _ _ _ _ _ _ q => crf _ _ _ _ _ _ _ (by omega) q), fun i hi => (r.tr i hi).frC (by rw [s3]) (fun a q => fo a (by omega)), ⟨T, t1, by rw [s5]; exact t2, t3, fun k hk => ?_⟩, by rw [s6]; exact r.f4, by rw [s7]; exact r.f5, by rw [s8]; exact r.j11, by rw [s9]; exact r.j12, by rw [s0, s1]; exact r.ho, by rw [s0]; exact r.hnz, by rw [s1, s2, s3]; exact r.hε, by rw [s1]; exact r.h7, r.o0⟩
  · have := r.cs
    unfold CS at this ⊢
    rw [s1, s2, s3]
    exact this
  · have sk := s4 (z + 270) (by unfold scr; omega)
    rw [sk.2.2.1]
    exact t4 k hk
