/-! PURE HE: trays -/
set_option maxRecDepth 100000
theorem CS.mk8 {h h' : AH} {c : Nat} (t : CS h c) (s : ∀ a, (a = c ∨ ((c + 269 ≤ a ∧ a ≤ c + 473) ∧ ¬ (c + 440 ≤ a ∧ a ≤ c + 443))) → sm h h' a) (sK : ∀ i, i < 4 → hK h' (c + 440 + i) = hK h (c + 440 + i)) : CS h' c := ⟨by rw [(s c (by omega)).1]; exact t.k,
  by rw [(s c (by omega)).2.2.2.2]; exact t.r269,
  by rw [(s (c + 269) (by omega)).1]; exact t.k269,
  by rw [(s (c + 269) (by omega)).2.1]; exact t.l269,
  by rw [(s c (by omega)).2.2.2.2]; exact t.r270,
  by rw [(s (c + 270) (by omega)).1]; exact t.k270,
  by rw [(s (c + 270) (by omega)).2.1]; exact t.l270,
  by rw [(s c (by omega)).2.2.2.2]; exact t.r271,
  by rw [(s (c + 271) (by omega)).1]; exact t.k271,
  by rw [(s c (by omega)).2.2.2.2]; exact t.r272,
  by rw [(s (c + 272) (by omega)).1]; exact t.k272,
  by rw [(s c (by omega)).2.2.2.2]; exact t.r273,
  by rw [(s (c + 273) (by omega)).1]; exact t.k273,
  by rw [(s (c + 273) (by omega)).2.1]; exact t.l273,
  by rw [(s c (by omega)).2.2.2.2]; exact t.r274,
  by rw [(s (c + 274) (by omega)).1]; exact t.k274,
  by rw [(s (c + 274) (by omega)).2.1]; exact t.l274,
  by rw [(s c (by omega)).2.2.2.2]; exact t.r275,
  by rw [(s (c + 275) (by omega)).1]; exact t.k275,
  by rw [(s (c + 275) (by omega)).2.1]; exact t.l275,
  by rw [(s c (by omega)).2.2.2.2]; exact t.r276,
  by rw [(s (c + 276) (by omega)).1]; exact t.k276,
  by rw [(s (c + 276) (by omega)).2.1]; exact t.l276,
  by rw [(s c (by omega)).2.2.2.2]; exact t.r285,
  by rw [(s (c + 285) (by omega)).1]; exact t.k285,
  by rw [(s (c + 285) (by omega)).2.1]; exact t.l285,
  by rw [(s c (by omega)).2.2.2.2]; exact t.r294,
  by rw [(s (c + 294) (by omega)).1]; exact t.k294,
  by rw [(s (c + 294) (by omega)).2.1]; exact t.l294,
  by rw [(s c (by omega)).2.2.2.2]; exact t.r336,
  by rw [(s (c + 336) (by omega)).1]; exact t.k336,
  by rw [(s (c + 336) (by omega)).2.1]; exact t.l336,
  by rw [(s c (by omega)).2.2.2.2]; exact t.r378,
  by rw [(s (c + 378) (by omega)).1]; exact t.k378,
  by rw [(s (c + 378) (by omega)).2.1]; exact t.l378,
  by rw [(s c (by omega)).2.2.2.2]; exact t.r420,
  by rw [(s (c + 420) (by omega)).1]; exact t.k420,
  by rw [(s c (by omega)).2.2.2.2]; exact t.r439,
  by rw [(s (c + 439) (by omega)).1]; exact t.k439,
  by rw [(s (c + 439) (by omega)).2.1]; exact t.l439,
  by rw [(s c (by omega)).2.2.2.2]; exact t.r444,
  by rw [(s (c + 444) (by omega)).1]; exact t.k444,
  by rw [(s (c + 444) (by omega)).2.1]; exact t.l444,
  by rw [(s (c + 421) (by omega)).1]; exact t.k421,
  by rw [(s (c + 421) (by omega)).2.1]; exact t.l421,
  by rw [(s (c + 430) (by omega)).1]; exact t.k430,
  by rw [(s (c + 430) (by omega)).2.1]; exact t.l430,
  by rw [(s (c + 420) (by omega)).2.2.2.2]; exact t.ra,
  by rw [(s (c + 420) (by omega)).2.2.2.2]; exact t.rb,
  by rw [(s (c + 420) (by omega)).2.2.2.2]; exact t.rt,
  by rw [(s (c + 271) (by omega)).2.2.2.2]; exact t.r4,
  by rw [(s (c + 272) (by omega)).2.2.2.2]; exact t.r5,
  fun i hi => ⟨by rw [(s (c + 276) (by omega)).2.2.2.2]; exact (t.w276 i hi).1, by rw [(s (c + 277 + i) (by omega)).1]; exact (t.w276 i hi).2.1, by rw [(s (c + 277 + i) (by omega)).2.1]; exact (t.w276 i hi).2.2⟩,
  fun i hi => ⟨by rw [(s (c + 285) (by omega)).2.2.2.2]; exact (t.w285 i hi).1, by rw [(s (c + 286 + i) (by omega)).1]; exact (t.w285 i hi).2.1, by rw [(s (c + 286 + i) (by omega)).2.1]; exact (t.w285 i hi).2.2⟩,
  fun i hi => ⟨by rw [(s (c + 294) (by omega)).2.2.2.2]; exact (t.w294 i hi).1, by rw [(s (c + 295 + i) (by omega)).1]; exact (t.w294 i hi).2.1, by rw [(s (c + 295 + i) (by omega)).2.1]; exact (t.w294 i hi).2.2⟩,
  fun i hi => ⟨by rw [(s (c + 336) (by omega)).2.2.2.2]; exact (t.w336 i hi).1, by rw [(s (c + 337 + i) (by omega)).1]; exact (t.w336 i hi).2.1, by rw [(s (c + 337 + i) (by omega)).2.1]; exact (t.w336 i hi).2.2⟩,
  fun i hi => ⟨by rw [(s (c + 378) (by omega)).2.2.2.2]; exact (t.w378 i hi).1, by rw [(s (c + 379 + i) (by omega)).1]; exact (t.w378 i hi).2.1, by rw [(s (c + 379 + i) (by omega)).2.1]; exact (t.w378 i hi).2.2⟩,
  fun i hi => ⟨by rw [(s (c + 421) (by omega)).2.2.2.2]; exact (t.w421 i hi).1, by rw [(s (c + 422 + i) (by omega)).1]; exact (t.w421 i hi).2.1, by rw [(s (c + 422 + i) (by omega)).2.1]; exact (t.w421 i hi).2.2⟩,
  fun i hi => ⟨by rw [(s (c + 430) (by omega)).2.2.2.2]; exact (t.w430 i hi).1, by rw [(s (c + 431 + i) (by omega)).1]; exact (t.w430 i hi).2.1, by rw [(s (c + 431 + i) (by omega)).2.1]; exact (t.w430 i hi).2.2⟩,
  fun i hi => ⟨by rw [(s (c + 444) (by omega)).2.2.2.2]; exact (t.w444 i hi).1, by rw [(s (c + 445 + i) (by omega)).1]; exact (t.w444 i hi).2.1, by rw [(s (c + 445 + i) (by omega)).2.1]; exact (t.w444 i hi).2.2⟩,
  fun i hi => ⟨by rw [(s (c + 439) (by omega)).2.2.2.2]; exact (t.wt i hi).1, by rw [sK i hi]; exact (t.wt i hi).2⟩⟩
theorem TRP.frT2 {o : Nat → Nat} {hC hT hT' : AH} {z m i : Nat} (p : TRP o hC hT z m i) (h18 : hI hT' (m + 18) i = hI hT (m + 18) i) (h19 : hI hT' (m + 19) i = hI hT (m + 19) i) (h20 : ∀ k, k < 28 → hJ hT' (m + 20) (28 * i + k) = hJ hT (m + 20) (28 * i + k)) : TRP o hC hT' z m i := by
  rcases p with ⟨p1, p2⟩ | ⟨so, n, row, p1, p2, p3, p4, p5, p6, p7, p8⟩
  · exact Or.inl ⟨by rw [h18]; exact p1, p2⟩
  · refine Or.inr ⟨so, n, row, by rw [h18]; exact p1, p2, by rw [h19]; exact p3, p4, p5, p6, p7, ?_⟩
    rcases p8 with ⟨q1, q2, q3⟩ | ⟨q1, q2, q3⟩ | ⟨q1, q2, q3⟩ | ⟨q1, q2, q3⟩
    · exact Or.inl ⟨q1, q2, fun k hk => by rw [h20 k (by omega)]; exact q3 k hk⟩
    · exact Or.inr (Or.inl ⟨q1, q2, fun k hk => by rw [h20 k (by omega)]; exact q3 k hk⟩)
    · exact Or.inr (Or.inr (Or.inl ⟨q1, q2, fun k hk => by rw [h20 k (by omega)]; exact q3 k hk⟩))
    · exact Or.inr (Or.inr (Or.inr ⟨q1, q2, fun k hk => by rw [h20 k (by omega)]; exact q3 k hk⟩))
/-- the relation behind a change of one tray -/
theorem RL.tri {o : Nat → Nat} {hC hT : AH} {z m x : Nat} {τ : Nat → Int} {υ : Nat → Int64} {e : Nat → Nat} {el : Nat → Nat → Nat} {lw : Nat} (r : RL o hC hT z m x τ υ e el lw) {i : Nat} (hi : i < 4) {o' : Nat → Nat} {hC' hT' : AH} {row : Nat} (orow : o row = 70 + i) (s : ∀ a, a < hn hC → a ≠ z + 440 + i → a ≠ row → sm hC hC' a) (sk : ∀ a, a < hn hC → hK hC' a = hK hC a) (h1 : hn hC ≤ hn hC') (h2 : ∀ a, hn hC' ≤ a → hK hC' a = 0 ∧ o' a = 0) (h3 : ∀ a, hn hC ≤ a → hK hC' a ≠ 120) (ho : ∀ a, a < hn hC → o' a = o a) (k7 : ¬ imK (hK hC row) ∧ hK hC row ≠ 120) (ts' : TS hT' m) (w : ∀ a, (m + 1 ≤ a ∧ a ≤ m + 6) → hI hT' a = hI hT a ∧ hJ hT' a = hJ hT a) (w18 : ∀ j, j ≠ i → hI hT' (m + 18) j = hI hT (m + 18) j) (w19 : ∀ j, j ≠ i → hI hT' (m + 19) j = hI hT (m + 19) j) (w20 : ∀ j k, j ≠ i → k < 28 → hJ hT' (m + 20) (28 * j + k) = hJ hT (m + 20) (28 * j + k)) (v9 : hI hT' m 9 = hI hT m 9) (v18 : hI hT' m 18 = hI hT m 18) (v19 : hI hT' m 19 = hI hT m 19) (v26 : hJ hT' m 26 = hJ hT m 26) (v27 : hJ hT' m 27 = hJ hT m 27) (tr' : TRP o' hC' hT' z m i) : RL o' hC' hT' z m x τ υ e el lw := by
  have hnz := r.hnz
  have cs := r.cs
  have lt : ∀ a, o a ≠ 0 → a < hn hC := fun a ha => Nat.lt_of_not_le fun q => ha (r.ho a q).2
  have ltk : ∀ a, hK hC a ≠ 0 → a < hn hC := fun a ha => Nat.lt_of_not_le fun q => ha (r.ho a q).1
  have oz := r.ow (z + 440 + i) (Or.inr ⟨by omega, by omega⟩)
  have k440 := (cs.wt i hi).2
  have fim : ∀ a, imK (hK hC a) → sm hC hC' a := fun a ha => s a (ltk a (by unfold imK at ha; omega)) (fun q => by rw [q, k440] at ha; unfold imK at ha; omega) (fun q => by rw [q] at ha; exact k7.1 ha)
  have f120 : ∀ a, hK hC a = 120 → sm hC hC' a := fun a ha => s a (ltk a (by omega)) (fun q => by rw [q, k440] at ha; omega) (fun q => by rw [q] at ha; exact k7.2 ha)
  have fo : ∀ a, o a ≠ 0 → o a ≠ 1 → o a ≠ 70 + i → sm hC hC' a ∧ o' a = o a := fun a h0 h1 h2 => ⟨s a (lt a h0) (fun q => h1 (by rw [q]; exact oz)) (fun q => h2 (by rw [q]; exact orow)), ho a (lt a h0)⟩
  have sf : ∀ a, (a = z ∨ ((z + 269 ≤ a ∧ a ≤ z + 495) ∧ a ≠ z + 440 + i)) → sm hC hC' a := fun a q => s a (by omega) (by omega) (fun u => by have := r.ow a (by omega); rw [u] at this; omega)
  have sz := sf z (by omega)
  have h0 : sm hC hC' 0 := s 0 (by omega) (by omega) (fun u => by have := r.o0; rw [u] at this; omega)
  have crf : ∀ (t x : Nat) (τ : Nat → Int) (υ : Nat → Int64) (e : Nat → Nat) (el : Nat → Nat → Nat) (lw : Nat), t ≠ 0 → t < 10 → t ≠ 1 → CrP o t hC x τ υ e el lw → CrP o' t hC' x τ υ e el lw := fun t x τ υ e el lw t0 t10 t1 c => c.fr fim (fun a q => by have := fo a (by omega) (by omega) (by omega); exact ⟨this.1, by omega⟩) (fun a q => ⟨f120 a q, fun w => by rw [ho a (ltk a (by omega))]; exact w⟩) (by rw [h0.2.2.2.2]) (fun a q => by have := fo a (by omega) (by omega) (by omega); exact ⟨this.1, by omega⟩)
  have w' := fun j (hj : 1 ≤ j ∧ j ≤ 6) => w (m + j) (by omega)
  obtain ⟨T, t1, t2, t3, t4⟩ := r.tp
  refine ⟨r.m, cs.mk8 (fun a q => sf a (by omega)) (fun j hj => sk _ (by omega)), by rw [sz.2.2.2.2]; exact r.hz, fun a q => ?_, crf _ _ _ _ _ _ _ (by omega) (by omega) (by omega) r.c, ⟨ts', fun i => by rw [(w' 1 (by omega)).1]; exact r.tn.i i, r.tn.g⟩, fun i => by rw [(w' 3 (by omega)).2]; exact r.tj i, fun j hj => ((r.im j hj).frT (w' 2 (by omega)).1 (w' 4 (by omega)).2 (w' 5 (by omega)).1).frC2 (by rw [(sf (z + 269) (by omega)).2.2.2.2]) (fun _ _ _ _ _ _ q => crf _ _ _ _ _ _ _ (by omega) (by omega) (by omega) q), fun j hj => ?_, ⟨T, t1, by rw [sz.2.2.1]; exact t2, by rw [v9]; exact t3, fun k hk => by rw [(sf (z + 270) (by omega)).2.2.1, (w' 6 (by omega)).1]; exact t4 k hk⟩, by rw [sz.2.2.1, v18]; exact r.f4, by rw [sz.2.2.1, v19]; exact r.f5, by rw [sz.2.2.2.1, v26]; exact r.j11, by rw [sz.2.2.2.1, v27]; exact r.j12, h2, ⟨by omega, hnz.2⟩, ?_, ?_, by rw [ho 0 (by omega)]; exact r.o0⟩
  · rw [ho a (by omega)]
    exact r.ow a q
  · by_cases q : j = i
    · subst q; exact tr'
    · exact ((r.tr j hj).frT2 (w18 j q) (w19 j q) (fun k hk => w20 j k q hk)).frC2 (by rw [(sf (z + 440 + j) (by omega)).2.2.2.2]) (fun a u => by have := fo a (by omega) (by omega) (by omega); exact ⟨this.1, by omega⟩)
  · obtain ⟨ε, e1, e2, e3⟩ := r.hε
    have se := f120 ε e2
    exact ⟨ε, by rw [h0.2.2.2.2]; exact e1, by rw [se.1]; exact e2, by rw [se.2.1]; exact e3⟩
  · intro a ha
    have q : a < hn hC := Nat.lt_of_not_le fun q => h3 a q ha
    rw [ho a q]
    rw [sk a q] at ha
    exact r.h7 a ha
/-- the relation behind a change of one tray -/
theorem RL.tri2 {o : Nat → Nat} {hC hT : AH} {z m x : Nat} {τ : Nat → Int} {υ : Nat → Int64} {e : Nat → Nat} {el : Nat → Nat → Nat} {lw : Nat} (r : RL o hC hT z m x τ υ e el lw) {i : Nat} (hi : i < 4) {o' : Nat → Nat} {hC' hT' : AH} (s : ∀ a, a < hn hC → a ≠ z + 440 + i → sm hC hC' a) (sk : ∀ a, a < hn hC → hK hC' a = hK hC a) (h1 : hn hC ≤ hn hC') (h2 : ∀ a, hn hC' ≤ a → hK hC' a = 0 ∧ o' a = 0) (h3 : ∀ a, hn hC ≤ a → hK hC' a ≠ 120) (ho : ∀ a, a < hn hC → o' a = o a) (ts' : TS hT' m) (w : ∀ a, (m + 1 ≤ a ∧ a ≤ m + 6) → hI hT' a = hI hT a ∧ hJ hT' a = hJ hT a) (w18 : ∀ j, j ≠ i → hI hT' (m + 18) j = hI hT (m + 18) j) (w19 : ∀ j, j ≠ i → hI hT' (m + 19) j = hI hT (m + 19) j) (w20 : ∀ j k, j ≠ i → k < 28 → hJ hT' (m + 20) (28 * j + k) = hJ hT (m + 20) (28 * j + k)) (v9 : hI hT' m 9 = hI hT m 9) (v18 : hI hT' m 18 = hI hT m 18) (v19 : hI hT' m 19 = hI hT m 19) (v26 : hJ hT' m 26 = hJ hT m 26) (v27 : hJ hT' m 27 = hJ hT m 27) (tr' : TRP o' hC' hT' z m i) : RL o' hC' hT' z m x τ υ e el lw := by
  have hnz := r.hnz
  have cs := r.cs
  have lt : ∀ a, o a ≠ 0 → a < hn hC := fun a ha => Nat.lt_of_not_le fun q => ha (r.ho a q).2
  have ltk : ∀ a, hK hC a ≠ 0 → a < hn hC := fun a ha => Nat.lt_of_not_le fun q => ha (r.ho a q).1
  have oz := r.ow (z + 440 + i) (Or.inr ⟨by omega, by omega⟩)
  have k440 := (cs.wt i hi).2
  have fim : ∀ a, imK (hK hC a) → sm hC hC' a := fun a ha => s a (ltk a (by unfold imK at ha; omega)) (fun q => by rw [q, k440] at ha; unfold imK at ha; omega)
  have f120 : ∀ a, hK hC a = 120 → sm hC hC' a := fun a ha => s a (ltk a (by omega)) (fun q => by rw [q, k440] at ha; omega)
  have fo : ∀ a, o a ≠ 0 → o a ≠ 1 → o a ≠ 70 + i → sm hC hC' a ∧ o' a = o a := fun a h0 h1 h2 => ⟨s a (lt a h0) (fun q => h1 (by rw [q]; exact oz)), ho a (lt a h0)⟩
  have sf : ∀ a, (a = z ∨ ((z + 269 ≤ a ∧ a ≤ z + 495) ∧ a ≠ z + 440 + i)) → sm hC hC' a := fun a q => s a (by omega) (by omega)
  have sz := sf z (by omega)
  have h0 : sm hC hC' 0 := s 0 (by omega) (by omega)
  have crf : ∀ (t x : Nat) (τ : Nat → Int) (υ : Nat → Int64) (e : Nat → Nat) (el : Nat → Nat → Nat) (lw : Nat), t ≠ 0 → t < 10 → t ≠ 1 → CrP o t hC x τ υ e el lw → CrP o' t hC' x τ υ e el lw := fun t x τ υ e el lw t0 t10 t1 c => c.fr fim (fun a q => by have := fo a (by omega) (by omega) (by omega); exact ⟨this.1, by omega⟩) (fun a q => ⟨f120 a q, fun w => by rw [ho a (ltk a (by omega))]; exact w⟩) (by rw [h0.2.2.2.2]) (fun a q => by have := fo a (by omega) (by omega) (by omega); exact ⟨this.1, by omega⟩)
  have w' := fun j (hj : 1 ≤ j ∧ j ≤ 6) => w (m + j) (by omega)
  obtain ⟨T, t1, t2, t3, t4⟩ := r.tp
  refine ⟨r.m, cs.mk8 (fun a q => sf a (by omega)) (fun j hj => sk _ (by omega)), by rw [sz.2.2.2.2]; exact r.hz, fun a q => ?_, crf _ _ _ _ _ _ _ (by omega) (by omega) (by omega) r.c, ⟨ts', fun i => by rw [(w' 1 (by omega)).1]; exact r.tn.i i, r.tn.g⟩, fun i => by rw [(w' 3 (by omega)).2]; exact r.tj i, fun j hj => ((r.im j hj).frT (w' 2 (by omega)).1 (w' 4 (by omega)).2 (w' 5 (by omega)).1).frC2 (by rw [(sf (z + 269) (by omega)).2.2.2.2]) (fun _ _ _ _ _ _ q => crf _ _ _ _ _ _ _ (by omega) (by omega) (by omega) q), fun j hj => ?_, ⟨T, t1, by rw [sz.2.2.1]; exact t2, by rw [v9]; exact t3, fun k hk => by rw [(sf (z + 270) (by omega)).2.2.1, (w' 6 (by omega)).1]; exact t4 k hk⟩, by rw [sz.2.2.1, v18]; exact r.f4, by rw [sz.2.2.1, v19]; exact r.f5, by rw [sz.2.2.2.1, v26]; exact r.j11, by rw [sz.2.2.2.1, v27]; exact r.j12, h2, ⟨by omega, hnz.2⟩, ?_, ?_, by rw [ho 0 (by omega)]; exact r.o0⟩
  · rw [ho a (by omega)]
    exact r.ow a q
  · by_cases q : j = i
    · subst q; exact tr'
    · exact ((r.tr j hj).frT2 (w18 j q) (w19 j q) (fun k hk => w20 j k q hk)).frC2 (by rw [(sf (z + 440 + j) (by omega)).2.2.2.2]) (fun a u => by have := fo a (by omega) (by omega) (by omega); exact ⟨this.1, by omega⟩)
  · obtain ⟨ε, e1, e2, e3⟩ := r.hε
    have se := f120 ε e2
    exact ⟨ε, by rw [h0.2.2.2.2]; exact e1, by rw [se.1]; exact e2, by rw [se.2.1]; exact e3⟩
  · intro a ha
    have q : a < hn hC := Nat.lt_of_not_le fun q => h3 a q ha
    rw [ho a q]
    rw [sk a q] at ha
    exact r.h7 a ha
theorem isTray_eq (h : AH) {t : Int} (ht : i31 t) : F_X8_isTray h (iI t) = some (b2 (0 ≤ t ∧ t ≤ 3)) := by
  unfold F_X8_isTray
  simp (disch := omega) only [i_lit, i_neg, i_add, i_sub, i_mul, i_ofNat, i_div, i_le, i_lt, i_eq, i_ix, i_inb, i_max, i_min, e_rem, j_lit, j_i, Int.reduceToNat, Int.reduceAdd, Int.reduceSub, Int.reduceMul, Int.reduceNeg, Int.reduceLT, Int.reduceLE, Int.reduceEq, gd_t, gd_T, ↓bd_m, ↓lh_t, ↓on_m, ↓ec_m, ↓reduceIte, if_true, if_false, true_and, and_true, false_and, and_false, true_or, or_true, false_or, or_false, Bool.false_eq_true, b2i_0, b2i_1, bl_0, bl_1, bl_b2, not_true_eq_false, not_false_eq_true, within_eq]
theorem trayOf_t {h : AH} {z : Nat} (cs : CS h z) {t : Nat} (ht : t < 4) : F_X1_trayOf h z (iI t) = some (.inl (z + 440 + t, h)) := by
  have e1 := isIn_eq h (a := (t : Int)) (b := 0) (c := 3) (by omega) (by omega) (by omega)
  rw [b2_t (by omega)] at e1
  have w := cs.wt t ht
  unfold F_X1_trayOf
  simp (disch := omega) only [i_lit, i_neg, i_add, i_sub, i_mul, i_ofNat, i_div, i_le, i_lt, i_eq, i_ix, i_inb, i_max, i_min, e_rem, j_lit, j_i, Int.reduceToNat, Int.reduceAdd, Int.reduceSub, Int.reduceMul, Int.reduceNeg, Int.reduceLT, Int.reduceLE, Int.reduceEq, gd_t, gd_T, ↓bd_m, ↓lh_t, ↓on_m, ↓ec_m, ↓reduceIte, if_true, if_false, true_and, and_true, false_and, and_false, true_or, or_true, false_or, or_false, Bool.false_eq_true, b2i_0, b2i_1, bl_0, bl_1, bl_b2, not_true_eq_false, not_false_eq_true, e1, there_t, cs.k, cs.r439, cs.k439, cs.l439, w.1, Int.toNat_natCast]
theorem trayOf_f (h : AH) (z : Nat) (g : 1 ≤ hc h ∧ 6 ≤ hs h) {t : Int} (ht : i31 t) (q : ¬ (0 ≤ t ∧ t ≤ 3)) : F_X1_trayOf h z (iI t) = some (.inr (3, hn h, nw h 0 0 6)) := by
  have e1 := isIn_eq h (a := t) (b := 0) (c := 3) (by omega) (by omega) (by omega)
  rw [b2_f q] at e1
  unfold F_X1_trayOf
  simp (disch := omega) only [i_lit, i_neg, i_add, i_sub, i_mul, i_ofNat, i_div, i_le, i_lt, i_eq, i_ix, i_inb, i_max, i_min, e_rem, j_lit, j_i, Int.reduceToNat, Int.reduceAdd, Int.reduceSub, Int.reduceMul, Int.reduceNeg, Int.reduceLT, Int.reduceLE, Int.reduceEq, gd_t, gd_T, ↓bd_m, ↓lh_t, ↓on_m, ↓ec_m, ↓reduceIte, if_true, if_false, true_and, and_true, false_and, and_false, true_or, or_true, false_or, or_false, Bool.false_eq_true, b2i_0, b2i_1, bl_0, bl_1, bl_b2, not_true_eq_false, not_false_eq_true, e1, there_f g]
theorem FTin {m : Nat} {P : Nat → Prop} {h h' : AH} (t : tf P (wI h m 5 (iI 0)) h') (hP : ∀ a, P a → m ≤ a ∧ a ≤ m + 20) : FT m h h' := (FT.thr _ _ _ _).trans (t.mono hP)
/-- a tray is laid anew on the reference's side -/
theorem trayT {g0 : AH} {m : Nat} (ts0 : TS g0 m) {t : Nat} (ht : t < 4) : ∃ g', G_X8_tray_69 g0 m (iI t) (iI 0) = some g' ∧ tf (fun a => a = m + 20) g0 g' ∧ hI g' = hI g0 ∧ (∀ k, k < 28 → hJ g' (m + 20) (28 * t + k) = jI 0) ∧ ∀ k, ¬ (28 * t ≤ k ∧ k < 28 * t + 28) → hJ g' (m + 20) k = hJ g0 (m + 20) k := by
  have key : Ok1 (G_X8_tray_69 g0 m (iI t) (iI 0)) (fun g' => tf (fun a => a = m + 20) g0 g' ∧ hI g' = hI g0 ∧ (∀ k, k < 28 → hJ g' (m + 20) (28 * t + k) = jI 0) ∧ ∀ k, ¬ (28 * t ≤ k ∧ k < 28 * t + 28) → hJ g' (m + 20) k = hJ g0 (m + 20) k) := by
    unfold G_X8_tray_69
    refine lp_ok (fun s k => ∃ (g : AH) (i : Nat), s = (g, m, iI t, iI i) ∧ i ≤ 28 ∧ k = 28 - i ∧ tf (fun a => a = m + 20) g0 g ∧ hI g = hI g0 ∧ (∀ k, k < i → hJ g (m + 20) (28 * t + k) = jI 0) ∧ ∀ k, ¬ (28 * t ≤ k ∧ k < 28 * t + 28) → hJ g (m + 20) k = hJ g0 (m + 20) k) ?_ fuel 28 _ ⟨g0, 0, rfl, by omega, by omega, tf.rfl, rfl, fun k hk => by omega, fun _ _ => rfl⟩ (lt_fuel (by omega))
    rintro self s k ⟨g, i, rfl, h1, rfl, T, I, f1, f2⟩ ih
    have ts := ts0.tf T
    unfold L_X8_tray_69
    by_cases ho : 28 ≤ (i : Int)
    · simp (disch := omega) only [i_lit, i_neg, i_add, i_sub, i_mul, i_ofNat, i_div, i_le, i_lt, i_eq, i_ix, i_inb, i_max, i_min, e_rem, j_lit, j_i, Int.reduceToNat, Int.reduceAdd, Int.reduceSub, Int.reduceMul, Int.reduceNeg, Int.reduceLT, Int.reduceLE, Int.reduceEq, gd_t, gd_T, ↓bd_m, ↓lh_t, ↓on_m, ↓ec_m, ↓reduceIte, if_true, if_false, true_and, and_true, false_and, and_false, true_or, or_true, false_or, or_false, Bool.false_eq_true, b2i_0, b2i_1, bl_0, bl_1, bl_b2, not_true_eq_false, not_false_eq_true, B_X8_tray_69, ho]
      exact Ok1.some ⟨T, I, fun k hk => f1 k (by omega), f2⟩
    · have y : (28 * (t : Int) + (i : Int)).toNat = 28 * t + i := by omega
      simp (disch := omega) only [i_lit, i_neg, i_add, i_sub, i_mul, i_ofNat, i_div, i_le, i_lt, i_eq, i_ix, i_inb, i_max, i_min, e_rem, j_lit, j_i, Int.reduceToNat, Int.reduceAdd, Int.reduceSub, Int.reduceMul, Int.reduceNeg, Int.reduceLT, Int.reduceLE, Int.reduceEq, gd_t, gd_T, ↓bd_m, ↓on_m, ↓ec_m, ↓reduceIte, if_true, if_false, true_and, and_true, false_and, and_false, true_or, or_true, false_or, or_false, Bool.false_eq_true, b2i_0, b2i_1, bl_0, bl_1, bl_b2, not_true_eq_false, not_false_eq_true, B_X8_tray_69, ho, ts.k, ts.r1, ts.k1, ts.l1, ts.r2, ts.k2, ts.l2, ts.r3, ts.k3, ts.l3, ts.r4, ts.k4, ts.l4, ts.r5, ts.k5, ts.l5, ts.r6, ts.k6, ts.l6, ts.r7, ts.k7, ts.l7, ts.r8, ts.k8, ts.l8, ts.r9, ts.k9, ts.l9, ts.r10, ts.k10, ts.l10, ts.r11, ts.k11, ts.l11, ts.r12, ts.k12, ts.l12, ts.r13, ts.k13, ts.l13, ts.r14, ts.k14, ts.l14, ts.r15, ts.k15, ts.l15, ts.r16, ts.k16, ts.l16, ts.r17, ts.k17, ts.l17, ts.r18, ts.k18, ts.l18, ts.r19, ts.k19, ts.l19, ts.r20, ts.k20, ts.l20, y]
      refine fwJ T rfl (fun g2 T2 u2 d2 i2 => ?_)
      have nx := ih (g2, m, iI t, iI ((i + 1 : Nat) : Int)) (28 - (i + 1)) (by omega) ⟨g2, i + 1, rfl, by omega, rfl, T2, by rw [i2]; exact I, fun k hk => ?_, fun k hk => by rw [d2 _ _ (by omega)]; exact f2 k hk⟩
      · rw [show (((i + 1 : Nat)) : Int) = (i : Int) + 1 by omega] at nx
        simp (disch := omega) only [i_lit, i_neg, i_add, i_sub, i_mul, i_ofNat, i_div, i_le, i_lt, i_eq, i_ix, i_inb, i_max, i_min, e_rem, j_lit, j_i, Int.reduceToNat, Int.reduceAdd, Int.reduceSub, Int.reduceMul, Int.reduceNeg, Int.reduceLT, Int.reduceLE, Int.reduceEq, gd_t, gd_T, ↓bd_m, ↓on_m, ↓ec_m, ↓reduceIte, if_true, if_false, true_and, and_true, false_and, and_false, true_or, or_true, false_or, or_false, Bool.false_eq_true, b2i_0, b2i_1, bl_0, bl_1, bl_b2, not_true_eq_false, not_false_eq_true, B_X8_tray_89]
        exact nx
      · by_cases q : k = i
        · subst q; exact u2
        · rw [d2 _ _ (by omega)]
          exact f1 k (by omega)
  obtain ⟨g', k1, k2⟩ := key
  exact ⟨g', k1, k2⟩
