/-! PURE A: outcomes, loops, what the abstract heap's parts say, numbers -/
set_option maxRecDepth 100000
def Ok1 {α : Type} (o : Option α) (Q : α → Prop) : Prop := ∃ r, o = some r ∧ Q r
def Ok2 {α β : Type} (x : Option α) (y : Option β) (R : α → β → Prop) : Prop := ∃ a b, x = some a ∧ y = some b ∧ R a b
theorem Ok1.some {α : Type} {r : α} {Q : α → Prop} (h : Q r) : Ok1 (some r) Q := ⟨r, rfl, h⟩
theorem Ok2.some {α β : Type} {a : α} {b : β} {R : α → β → Prop} (h : R a b) : Ok2 (some a) (some b) R := ⟨a, b, rfl, rfl, h⟩
theorem Ok1.mono {α : Type} {o : Option α} {Q Q' : α → Prop} (h : Ok1 o Q) (k : ∀ r, Q r → Q' r) : Ok1 o Q' := by
  obtain ⟨r, h1, h2⟩ := h
  exact ⟨r, h1, k r h2⟩
theorem Ok2.mono {α β : Type} {x : Option α} {y : Option β} {R R' : α → β → Prop} (h : Ok2 x y R) (k : ∀ a b, R a b → R' a b) : Ok2 x y R' := by
  obtain ⟨a, b, h1, h2, h3⟩ := h
  exact ⟨a, b, h1, h2, k a b h3⟩
theorem Ok1.bind {α β : Type} {x : Option β} {f : β → Option α} {Q : α → Prop} (h : Ok1 x (fun r => Ok1 (f r) Q)) : Ok1 (Option.bind x f) Q := by
  obtain ⟨r, h1, h2⟩ := h
  rw [h1]
  exact h2
theorem Ok2.bind {α β γ δ : Type} {x : Option α} {y : Option β} {f : α → Option γ} {g : β → Option δ} {R : γ → δ → Prop} (h : Ok2 x y (fun a b => Ok2 (f a) (g b) R)) : Ok2 (Option.bind x f) (Option.bind y g) R := by
  obtain ⟨a, b, h1, h2, h3⟩ := h
  rw [h1, h2]
  exact h3
theorem gd_t {α : Type} {c : Prop} [Decidable c] (A : Option α) (q : c) : gd c A = A := if_pos q
theorem gd_T {α : Type} {d : Decidable True} (A : Option α) : @gd α True d A = A := if_pos trivial
theorem lh_t {α : Type} (a : AH) (k : AH → Option α) : lh a k = k a := Eq.trans rfl rfl
theorem bd_t {α β : Type} (b : β) (f : β → Option α) : Option.bind (some b) f = f b := Eq.trans rfl rfl
theorem on_s {α : Type} (b : Nat) (A : Option α) (B : Nat → Option α) : on (some b) A B = B b := Eq.trans rfl rfl
theorem on_n {α : Type} (A : Option α) (B : Nat → Option α) : on none A B = A := Eq.trans rfl rfl
theorem ec_l {T α : Type} (v : T) (h : AH) (A : T → AH → Option α) (B : Nat → Nat → AH → Option α) : ec (some (.inl (v, h))) A B = A v h := Eq.trans rfl rfl
theorem ec_r {T α : Type} (E q : Nat) (h : AH) (A : T → AH → Option α) (B : Nat → Nat → AH → Option α) : ec (some (.inr (E, q, h))) A B = B E q h := Eq.trans rfl rfl
/-! loops -/
theorem lp_ok {σ α : Type} {body : (σ → Option α) → σ → Option α} {Q : α → Prop} (I : σ → Nat → Prop) (hstep : ∀ (self : σ → Option α) (s : σ) (k : Nat), I s k → (∀ s' k', k' < k → I s' k' → Ok1 (self s') Q) → Ok1 (body self s) Q) : ∀ (n k : Nat) (s : σ), I s k → k < n → Ok1 (lp body n s) Q := by
  intro n
  induction n with
  | zero => intro k s _ h; exact absurd h (Nat.not_lt_zero _)
  | succ n ih =>
    intro k s hI hk
    exact hstep (lp body n) s k hI (fun s' k' h' hI' => ih k' s' hI' (by omega))
theorem lp_ok2 {σ τ α β : Type} {b1 : (σ → Option α) → σ → Option α} {b2 : (τ → Option β) → τ → Option β} {R : α → β → Prop} (I : σ → τ → Nat → Prop) (hstep : ∀ (f : σ → Option α) (g : τ → Option β) (s : σ) (t : τ) (k : Nat), I s t k → (∀ s' t' k', k' < k → I s' t' k' → Ok2 (f s') (g t') R) → Ok2 (b1 f s) (b2 g t) R) : ∀ (n k : Nat) (s : σ) (t : τ), I s t k → k < n → Ok2 (lp b1 n s) (lp b2 n t) R := by
  intro n
  induction n with
  | zero => intro k s t _ h; exact absurd h (Nat.not_lt_zero _)
  | succ n ih =>
    intro k s t hI hk
    exact hstep (lp b1 n) (lp b2 n) s t k hI (fun s' t' k' h' hI' => ih k' s' t' hI' (by omega))
theorem lp_eq {σ α : Type} {body : (σ → Option α) → σ → Option α} (f : σ → α) (I : σ → Nat → Prop) (hstep : ∀ (self : σ → Option α) (s : σ) (k : Nat), I s k → (∀ s' k', k' < k → I s' k' → self s' = some (f s')) → body self s = some (f s)) : ∀ (n k : Nat) (s : σ), I s k → k < n → lp body n s = some (f s) := by
  intro n
  induction n with
  | zero => intro k s _ h; exact absurd h (Nat.not_lt_zero _)
  | succ n ih =>
    intro k s hI hk
    exact hstep (lp body n) s k hI (fun s' k' h' hI' => ih k' s' hI' (by omega))
theorem lt_fuel {k : Nat} (h : k ≤ 1000000000) : k < fuel := by unfold fuel; omega
/-- a counted loop's state -/
def itr {β : Type} (f : Nat → β → β) : Nat → Nat → β → β
  | 0, _, b => b
  | k + 1, i, b => itr f k (i + 1) (f i b)
/-! what the parts of the abstract heap say -/
theorem hn_wI (h : AH) (a k : Nat) (x : Int32) : hn (wI h a k x) = hn h := Eq.trans rfl rfl
theorem hc_wI (h : AH) (a k : Nat) (x : Int32) : hc (wI h a k x) = hc h := Eq.trans rfl rfl
theorem hs_wI (h : AH) (a k : Nat) (x : Int32) : hs (wI h a k x) = hs h := Eq.trans rfl rfl
theorem hK_wI (h : AH) (a k : Nat) (x : Int32) : hK (wI h a k x) = hK h := Eq.trans rfl rfl
theorem hL_wI (h : AH) (a k : Nat) (x : Int32) : hL (wI h a k x) = hL h := Eq.trans rfl rfl
theorem hJ_wI (h : AH) (a k : Nat) (x : Int32) : hJ (wI h a k x) = hJ h := Eq.trans rfl rfl
theorem hR_wI (h : AH) (a k : Nat) (x : Int32) : hR (wI h a k x) = hR h := Eq.trans rfl rfl
theorem hI_wI (h : AH) (a k : Nat) (x : Int32) (b j : Nat) : hI (wI h a k x) b j = if b = a ∧ j = k then x else hI h b j := Eq.trans rfl rfl
theorem hn_wJ (h : AH) (a k : Nat) (x : Int64) : hn (wJ h a k x) = hn h := Eq.trans rfl rfl
theorem hc_wJ (h : AH) (a k : Nat) (x : Int64) : hc (wJ h a k x) = hc h := Eq.trans rfl rfl
theorem hs_wJ (h : AH) (a k : Nat) (x : Int64) : hs (wJ h a k x) = hs h := Eq.trans rfl rfl
theorem hK_wJ (h : AH) (a k : Nat) (x : Int64) : hK (wJ h a k x) = hK h := Eq.trans rfl rfl
theorem hL_wJ (h : AH) (a k : Nat) (x : Int64) : hL (wJ h a k x) = hL h := Eq.trans rfl rfl
theorem hI_wJ (h : AH) (a k : Nat) (x : Int64) : hI (wJ h a k x) = hI h := Eq.trans rfl rfl
theorem hR_wJ (h : AH) (a k : Nat) (x : Int64) : hR (wJ h a k x) = hR h := Eq.trans rfl rfl
theorem hJ_wJ (h : AH) (a k : Nat) (x : Int64) (b j : Nat) : hJ (wJ h a k x) b j = if b = a ∧ j = k then x else hJ h b j := Eq.trans rfl rfl
theorem hn_wR (h : AH) (a k : Nat) (x : Option Nat) : hn (wR h a k x) = hn h := Eq.trans rfl rfl
theorem hc_wR (h : AH) (a k : Nat) (x : Option Nat) : hc (wR h a k x) = hc h := Eq.trans rfl rfl
theorem hs_wR (h : AH) (a k : Nat) (x : Option Nat) : hs (wR h a k x) = hs h := Eq.trans rfl rfl
theorem hK_wR (h : AH) (a k : Nat) (x : Option Nat) : hK (wR h a k x) = hK h := Eq.trans rfl rfl
theorem hL_wR (h : AH) (a k : Nat) (x : Option Nat) : hL (wR h a k x) = hL h := Eq.trans rfl rfl
theorem hI_wR (h : AH) (a k : Nat) (x : Option Nat) : hI (wR h a k x) = hI h := Eq.trans rfl rfl
theorem hJ_wR (h : AH) (a k : Nat) (x : Option Nat) : hJ (wR h a k x) = hJ h := Eq.trans rfl rfl
theorem hR_wR (h : AH) (a k : Nat) (x : Option Nat) (b j : Nat) : hR (wR h a k x) b j = if b = a ∧ j = k then x else hR h b j := Eq.trans rfl rfl
theorem hn_nw (h : AH) (κ l s : Nat) : hn (nw h κ l s) = hn h + 1 := Eq.trans rfl rfl
theorem hc_nw (h : AH) (κ l s : Nat) : hc (nw h κ l s) = hc h - 1 := Eq.trans rfl rfl
theorem hs_nw (h : AH) (κ l s : Nat) : hs (nw h κ l s) = hs h - s := Eq.trans rfl rfl
theorem hK_nw (h : AH) (κ l s b : Nat) : hK (nw h κ l s) b = if b = hn h then κ else hK h b := Eq.trans rfl rfl
theorem hL_nw (h : AH) (κ l s b : Nat) : hL (nw h κ l s) b = if b = hn h then l else hL h b := Eq.trans rfl rfl
theorem hI_nw (h : AH) (κ l s b j : Nat) : hI (nw h κ l s) b j = if b = hn h then 0 else hI h b j := Eq.trans rfl rfl
theorem hJ_nw (h : AH) (κ l s b j : Nat) : hJ (nw h κ l s) b j = if b = hn h then 0 else hJ h b j := Eq.trans rfl rfl
theorem hR_nw (h : AH) (κ l s b j : Nat) : hR (nw h κ l s) b j = if b = hn h then none else hR h b j := Eq.trans rfl rfl
theorem hn_nz (h : AH) (k s : Nat) : hn (nz h k s) = hn h + k := Eq.trans rfl rfl
theorem hc_nz (h : AH) (k s : Nat) : hc (nz h k s) = hc h - k := Eq.trans rfl rfl
theorem hs_nz (h : AH) (k s : Nat) : hs (nz h k s) = hs h - s := Eq.trans rfl rfl
theorem hK_nz (h : AH) (k s : Nat) : hK (nz h k s) = hK h := Eq.trans rfl rfl
theorem hL_nz (h : AH) (k s : Nat) : hL (nz h k s) = hL h := Eq.trans rfl rfl
theorem hI_nz (h : AH) (k s : Nat) : hI (nz h k s) = hI h := Eq.trans rfl rfl
theorem hJ_nz (h : AH) (k s : Nat) : hJ (nz h k s) = hJ h := Eq.trans rfl rfl
theorem hR_nz (h : AH) (k s : Nat) : hR (nz h k s) = hR h := Eq.trans rfl rfl
/-! numbers -/
/-- an int by its number -/
def iI (z : Int) : Int32 := Int32.ofInt z
def jI (z : Int) : Int64 := Int64.ofInt z
/-- in an int's range -/
abbrev i31 (z : Int) : Prop := -2147483648 ≤ z ∧ z < 2147483648
theorem i_lit (n : Nat) : (OfNat.ofNat n : Int32) = iI (OfNat.ofNat n) := by
  show Int32.ofNat n = Int32.ofInt (n : Int)
  exact (Int32.ofInt_eq_ofNat).symm
theorem i_ofNat (n : Nat) : Int32.ofNat n = iI (n : Int) := (Int32.ofInt_eq_ofNat).symm
theorem i_nI (n : Nat) : nI n = iI (n : Int) := i_ofNat n
theorem i_add (a b : Int) : iI a + iI b = iI (a + b) := (Int32.ofInt_add a b).symm
theorem i_sub (a b : Int) : iI a - iI b = iI (a - b) := (Int32.ofInt_sub a b).symm
theorem i_mul (a b : Int) : iI a * iI b = iI (a * b) := (Int32.ofInt_mul a b).symm
theorem i_neg (a : Int) : -iI a = iI (-a) := (Int32.ofInt_neg a).symm
theorem i_toInt {z : Int} (h : i31 z) : (iI z).toInt = z := Int32.toInt_ofInt_of_le (by omega) (by omega)
theorem i_of (x : Int32) : x = iI x.toInt := (Int32.ofInt_toInt x).symm
theorem i_rng (x : Int32) : i31 x.toInt := ⟨Int32.le_toInt x, Int32.toInt_lt x⟩
theorem i_ex (x : Int32) : ∃ z, x = iI z ∧ i31 z := ⟨x.toInt, i_of x, i_rng x⟩
theorem i_eq {a b : Int} (ha : i31 a) (hb : i31 b) : (iI a = iI b) = (a = b) := propext ⟨fun h => by rw [← i_toInt ha, ← i_toInt hb, h], fun h => by rw [h]⟩
theorem i_le {a b : Int} (ha : i31 a) (hb : i31 b) : (iI a ≤ iI b) = (a ≤ b) := by rw [Int32.le_iff_toInt_le, i_toInt ha, i_toInt hb]
theorem i_lt {a b : Int} (ha : i31 a) (hb : i31 b) : (iI a < iI b) = (a < b) := by rw [Int32.lt_iff_toInt_lt, i_toInt ha, i_toInt hb]
theorem i_ix {z : Int} (h : i31 z) : Int32.toNatClampNeg (iI z) = z.toNat := by
  show (iI z).toInt.toNat = z.toNat
  rw [i_toInt h]
theorem i_inb {z : Int} (h : i31 z) (L : Nat) : inb (iI z) L = (0 ≤ z ∧ z < (L : Int)) := by
  show (0 ≤ (iI z).toInt ∧ (iI z).toInt < (L : Int)) = _
  rw [i_toInt h]
theorem j_lit (n : Nat) : (OfNat.ofNat n : Int64) = jI (OfNat.ofNat n) := by
  show Int64.ofNat n = Int64.ofInt (n : Int)
  exact (Int64.ofInt_eq_ofNat).symm
theorem j_toInt {z : Int} (h : -9223372036854775808 ≤ z ∧ z < 9223372036854775808) : (jI z).toInt = z := Int64.toInt_ofInt_of_le (by omega) (by omega)
theorem j_i {z : Int} (h : i31 z) : (iI z).toInt64 = jI z := by
  apply Int64.toInt_inj.1
  rw [Int32.toInt_toInt64, i_toInt h, j_toInt (by omega)]
theorem i_max {a b : Int} (ha : i31 a) (hb : i31 b) : imax (iI a) (iI b) = iI (max a b) := by
  unfold imax
  simp only [i_lt ha hb]
  by_cases h : a < b
  · rw [if_pos h, show max a b = b by omega]
  · rw [if_neg h, show max a b = a by omega]
theorem i_min {a b : Int} (ha : i31 a) (hb : i31 b) : imin (iI a) (iI b) = iI (min a b) := by
  unfold imin
  simp only [i_lt hb ha]
  by_cases h : b < a
  · rw [if_pos h, show min a b = b by omega]
  · rw [if_neg h, show min a b = a by omega]
theorem i_abs {a : Int} (ha : -2147483648 < a ∧ a < 2147483648) : iabs (iI a) = iI (a.natAbs : Int) := by
  unfold iabs
  simp only [i_lit, i_le (show i31 0 by omega) (show i31 a by omega)]
  by_cases h : (0 : Int) ≤ a
  · rw [if_pos h, show ((a.natAbs : Nat) : Int) = a by omega]
  · rw [if_neg h, i_sub, show ((a.natAbs : Nat) : Int) = 0 - a by omega]
theorem i_div {a d : Int} (ha : 0 ≤ a ∧ a < 2147483648) (hd : 0 < d ∧ d < 2147483648) : iI a / iI d = iI (a / d) := by
  obtain ⟨n, rfl⟩ := Int.eq_ofNat_of_zero_le ha.1
  obtain ⟨k, rfl⟩ := Int.eq_ofNat_of_zero_le (Int.le_of_lt hd.1)
  have := pk_div (a := n) (d := k) (by omega) (by omega) (by omega)
  rw [i_nI, i_nI, i_nI] at this
  exact this
theorem i_rem {a d : Int} (ha : 0 ≤ a ∧ a < 2147483648) (hd : 0 < d ∧ d < 2147483648) : iI a - iI a / iI d * iI d = iI (a % d) := by
  rw [i_div ha hd, i_mul, i_sub, Int.emod_def, Int.mul_comm]
theorem e_rem (a d : Int) : a - a / d * d = a % d := by rw [Int.emod_def, Int.mul_comm]
def b2 (p : Prop) [Decidable p] : Int32 := if p then 1 else 0
theorem b2_t {p : Prop} [Decidable p] (h : p) : b2 p = 1 := if_pos h
theorem b2_f {p : Prop} [Decidable p] (h : ¬ p) : b2 p = 0 := if_neg h
theorem bl_b2 (p : Prop) [Decidable p] : bl (b2 p) := by
  by_cases h : p
  · rw [b2_t h]; exact Or.inr rfl
  · rw [b2_f h]; exact Or.inl rfl
theorem b2_0 (p : Prop) [Decidable p] : (b2 p = 0) = ¬ p := by
  by_cases h : p
  · rw [b2_t h]; simp [h]
  · rw [b2_f h]; simp [h]
theorem b2_1 (p : Prop) [Decidable p] : (b2 p = 1) = p := by
  by_cases h : p
  · rw [b2_t h]; simp [h]
  · rw [b2_f h]; simp [h]
theorem b2i_0 (p : Prop) [Decidable p] : (b2 p = iI 0) = ¬ p := b2_0 p
theorem b2i_1 (p : Prop) [Decidable p] : (b2 p = iI 1) = p := b2_1 p
theorem bl_0 : bl (iI 0) = True := eq_true (Or.inl rfl)
theorem bl_1 : bl (iI 1) = True := eq_true (Or.inr rfl)
theorem b2_iI (p : Prop) [Decidable p] : b2 p = iI (if p then 1 else 0) := by
  by_cases h : p
  · rw [b2_t h, if_pos h]; rfl
  · rw [b2_f h, if_neg h]; rfl
theorem j_lt {a b : Int} (ha : -9223372036854775808 ≤ a ∧ a < 9223372036854775808) (hb : -9223372036854775808 ≤ b ∧ b < 9223372036854775808) : (jI a < jI b) = (a < b) := by rw [Int64.lt_iff_toInt_lt, j_toInt ha, j_toInt hb]
theorem j_eq {a b : Int} (ha : -9223372036854775808 ≤ a ∧ a < 9223372036854775808) (hb : -9223372036854775808 ≤ b ∧ b < 9223372036854775808) : (jI a = jI b) = (a = b) := propext ⟨fun h => by rw [← j_toInt ha, ← j_toInt hb, h], fun h => by rw [h]⟩
theorem lg_lt {a b : Int} (ha : -9223372036854775808 ≤ a ∧ a < 9223372036854775808) (hb : -9223372036854775808 ≤ b ∧ b < 9223372036854775808) : (lg_cmp (jI a) (jI b) < 0) = (a < b) := by
  unfold lg_cmp
  simp only [gt_iff_lt, j_lt hb ha, j_eq ha hb]
  by_cases h1 : b < a
  · rw [if_pos h1]
    exact propext ⟨fun h => absurd h (by decide), fun h => by omega⟩
  · rw [if_neg h1]
    by_cases h2 : a = b
    · rw [if_pos h2]
      exact propext ⟨fun h => absurd h (by decide), fun h => by omega⟩
    · rw [if_neg h2]
      exact propext ⟨fun h => by omega, fun h => by decide⟩
theorem lg_gt {a b : Int} (ha : -9223372036854775808 ≤ a ∧ a < 9223372036854775808) (hb : -9223372036854775808 ≤ b ∧ b < 9223372036854775808) : (0 < lg_cmp (jI a) (jI b)) = (b < a) := by
  unfold lg_cmp
  simp only [gt_iff_lt, j_lt hb ha, j_eq ha hb]
  by_cases h1 : b < a
  · rw [if_pos h1]
    exact propext ⟨fun h => h1, fun h => by decide⟩
  · rw [if_neg h1]
    by_cases h2 : a = b
    · rw [if_pos h2]
      exact propext ⟨fun h => absurd h (by decide), fun h => by omega⟩
    · rw [if_neg h2]
      exact propext ⟨fun h => absurd h (by decide), fun h => by omega⟩
/-- a cell that two heaps hold alike -/
def sm (h h' : AH) (a : Nat) : Prop := hK h' a = hK h a ∧ hL h' a = hL h a ∧ hI h' a = hI h a ∧ hJ h' a = hJ h a ∧ hR h' a = hR h a
theorem sm.rfl (h : AH) (a : Nat) : sm h h a := ⟨Eq.refl _, Eq.refl _, Eq.refl _, Eq.refl _, Eq.refl _⟩
theorem sm.trans {h h1 h2 : AH} {a : Nat} (p : sm h h1 a) (q : sm h1 h2 a) : sm h h2 a := ⟨q.1.trans p.1, q.2.1.trans p.2.1, q.2.2.1.trans p.2.2.1, q.2.2.2.1.trans p.2.2.2.1, q.2.2.2.2.trans p.2.2.2.2⟩
theorem sm_wI {h : AH} {a k b : Nat} {x : Int32} (e : b ≠ a) : sm h (wI h a k x) b := ⟨Eq.refl _, Eq.refl _, funext fun j => by rw [hI_wI, if_neg (fun q => e q.1)], Eq.refl _, Eq.refl _⟩
theorem sm_wJ {h : AH} {a k b : Nat} {x : Int64} (e : b ≠ a) : sm h (wJ h a k x) b := ⟨Eq.refl _, Eq.refl _, Eq.refl _, funext fun j => by rw [hJ_wJ, if_neg (fun q => e q.1)], Eq.refl _⟩
theorem sm_wR {h : AH} {a k b : Nat} {x : Option Nat} (e : b ≠ a) : sm h (wR h a k x) b := ⟨Eq.refl _, Eq.refl _, Eq.refl _, Eq.refl _, funext fun j => by rw [hR_wR, if_neg (fun q => e q.1)]⟩
theorem sm_nw {h : AH} {κ l s b : Nat} (e : b ≠ hn h) : sm h (nw h κ l s) b := ⟨by rw [hK_nw, if_neg e], by rw [hL_nw, if_neg e], funext fun j => by rw [hI_nw, if_neg e], funext fun j => by rw [hJ_nw, if_neg e], funext fun j => by rw [hR_nw, if_neg e]⟩
theorem sm_nz {h : AH} {k s b : Nat} : sm h (nz h k s) b := ⟨Eq.refl _, Eq.refl _, Eq.refl _, Eq.refl _, Eq.refl _⟩
theorem sm_cpR {h : AH} {a b sp dp n x : Nat} (e : x ≠ b) : sm h (cpR h a b sp dp n) x := ⟨Eq.refl _, Eq.refl _, Eq.refl _, Eq.refl _, funext fun j => by show (if x = b then _ else _) = _; rw [if_neg e]⟩
theorem sm_cpI {h : AH} {a b sp dp n x : Nat} (e : x ≠ b) : sm h (cpI h a b sp dp n) x := ⟨Eq.refl _, Eq.refl _, funext fun j => by show (if x = b then _ else _) = _; rw [if_neg e], Eq.refl _, Eq.refl _⟩
/-- a heap that has grown: cells and slots spent -/
def ex (h h' : AH) (c s : Nat) : Prop := hn h ≤ hn h' ∧ hc h ≤ hc h' + c ∧ hs h ≤ hs h' + s
theorem ex.rfl (h : AH) : ex h h 0 0 := ⟨Nat.le_refl _, Nat.le_refl _, Nat.le_refl _⟩
