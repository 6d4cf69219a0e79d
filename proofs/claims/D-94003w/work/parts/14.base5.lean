/-! BASE 5: the words of the decompiled functions, and rows fit for them -/
set_option maxRecDepth 100000
/-- a guard -/
def gd {α : Type} (c : Prop) [Decidable c] (A : Option α) : Option α := if c then A else none
theorem gd_e {α : Type} {c : Prop} [Decidable c] {A : Option α} {r : α} (h : gd c A = some r) : c ∧ A = some r := by
  unfold gd at h
  by_cases q : c
  · rw [if_pos q] at h; exact ⟨q, h⟩
  · rw [if_neg q] at h; cases h
theorem gd_i {α : Type} {c : Prop} [Decidable c] {A : Option α} (q : c) : gd c A = A := if_pos q
theorem it_t {α : Type} {c : Prop} [Decidable c] {A B : Option α} {r : Option α} (q : c) (h : (if c then A else B) = r) : A = r := by rw [if_pos q] at h; exact h
theorem it_f {α : Type} {c : Prop} [Decidable c] {A B : Option α} {r : Option α} (q : ¬ c) (h : (if c then A else B) = r) : B = r := by rw [if_neg q] at h; exact h
theorem bd_e {α β : Type} {x : Option β} {f : β → Option α} {r : α} (h : Option.bind x f = some r) : ∃ b, x = some b ∧ f b = some r := by
  cases x with
  | none => cases h
  | some b => exact ⟨b, rfl, h⟩
/-- a name for a heap -/
def lh {α : Type} (a : AH) (k : AH → Option α) : Option α := k a
theorem lh_e {α : Type} {a : AH} {k : AH → Option α} {r : α} (h : lh a k = some r) : ∃ b, b = a ∧ k b = some r := ⟨a, rfl, h⟩
theorem some_e {α : Type} {a r : α} (h : some a = some r) : r = a := (Option.some.inj h).symm
/-- a nullable reference -/
def on {α : Type} (x : Option Nat) (A : Option α) (B : Nat → Option α) : Option α := match x with
  | none => A
  | some b => B b
theorem on_e {α : Type} {x : Option Nat} {A : Option α} {B : Nat → Option α} {r : Option α} (h : on x A B = r) : (x = none ∧ A = r) ∨ ∃ b, x = some b ∧ B b = r := by
  cases x with
  | none => exact Or.inl ⟨rfl, h⟩
  | some b => exact Or.inr ⟨b, rfl, h⟩
/-- a loop -/
def lp {σ α : Type} (body : (σ → Option α) → σ → Option α) : Nat → σ → Option α
  | 0, _ => none
  | n + 1, s => body (lp body n) s
theorem lp_ind {σ α : Type} {body : (σ → Option α) → σ → Option α} {P : σ → Prop} {r : α} (hstep : ∀ self : σ → Option α, (∀ s, self s = some r → P s) → ∀ s, body self s = some r → P s) : ∀ n s, lp body n s = some r → P s := by
  intro n
  induction n with
  | zero => intro s h; cases h
  | succ n ih => intro s h; exact hstep (lp body n) ih s h
def fuel : Nat := 18446744073709551616
/-- a number that is a boolean -/
abbrev bl (v : Int32) : Prop := v = 0 ∨ v = 1
theorem bl_n {v : Int32} (h : bl v) : narrow .boolean (.int v) = .int v := by rcases h with rfl | rfl <;> decide
theorem bl_f {v : Int32} (h : bl v) : fits .boolean (.int v) = true := by rcases h with rfl | rfl <;> decide
theorem tb_out {v : Int32} {lo hi : Int} (h : ∀ i : Int, lo ≤ i → i ≤ hi → ¬ v = Int32.ofInt i) : v.toInt < lo ∨ hi < v.toInt := by
  by_cases h1 : v.toInt < lo
  · exact Or.inl h1
  · by_cases h2 : hi < v.toInt
    · exact Or.inr h2
    · exact absurd (Int32.ofInt_toInt v).symm (h v.toInt (by omega) (by omega))
section XG
variable {cx : zX} {own : String} {cc : ByteArray} {nL fr lo : Nat} {rt : Option FieldType} {h0 : AH} {Q : State → Prop} {h h' : AH} {pc : Nat} {lv lv' : List (Nat × Value)} {st : List Value}
theorem x_lconst (hC : Cx cx own cc nL fr lo rt h0) {n : Fin 2} {v : Int64} (d : decode cc pc = .ok (.lconst n, 1)) (hv : Int64.ofNat (n : Nat) = v) (k : X cx nL Q h (pc + 1) lv (.long v :: st)) : X cx nL Q h pc lv st := fun H locs ls a b c => lv_lconst hC.hx hC.hb d hv (k H locs ls a b c)
theorem x_dup2L (hC : Cx cx own cc nL fr lo rt h0) {va : Value} (d : decode cc pc = .ok (.dup2, 1)) (hva : va.category = 2) (k : X cx nL Q h (pc + 1) lv (va :: va :: st)) : X cx nL Q h pc lv (va :: st) := fun H locs ls a b c => lv_dup2_2 hC.hx hC.hb d hva (k H locs ls a b c)
def imax (x y : Int32) : Int32 := if x < y then y else x
def imin (x y : Int32) : Int32 := if y < x then y else x
def iabs (x : Int32) : Int32 := if 0 ≤ x then x else 0 - x
theorem x_mmax (hC : Cx cx own cc nL fr lo rt h0) {idx : Nat} {x y : Int32} (w1 : Cond.methodLink own idx Lib.Math.max.name ∈ lw_all) (w2 : Cond.static Lib.Math.max.name ∈ lw_all) (w3 : Cond.initialized "java/lang/Math" ∈ lw_all) (w4 : Cond.code Lib.Math.max.name Lib.Math.max.code 2 (some .int) ∈ lw_all) (hf : 1 ≤ fr) (hl9 : (st.map fun v => v.category).sum + 13 ≤ lo) (d : decode cc pc = .ok (.invokestatic idx, 3)) (k : X cx nL Q h (pc + 3) lv (.int (imax x y) :: st)) : X cx nL Q h pc lv (.int y :: .int x :: st) := fun H locs ls a b c => va_mmax hC.hx hC.hb (hC.hml.trans c.1.symm) hC.hown (hC.hts _ w1) (hC.hts _ w2) (hC.hts _ w3) (hC.hts _ w4) (by rw [hC.rf]; exact hf) (by rw [hC.rl]; exact hl9) (by obtain ⟨r, a1, a2, a3⟩ := a; have := r.1; omega) (by obtain ⟨r, a1, a2, a3⟩ := a; omega) d (k H locs ls a b c)
theorem x_mmin (hC : Cx cx own cc nL fr lo rt h0) {idx : Nat} {x y : Int32} (w1 : Cond.methodLink own idx Lib.Math.min.name ∈ lw_all) (w2 : Cond.static Lib.Math.min.name ∈ lw_all) (w3 : Cond.initialized "java/lang/Math" ∈ lw_all) (w4 : Cond.code Lib.Math.min.name Lib.Math.min.code 2 (some .int) ∈ lw_all) (hf : 1 ≤ fr) (hl9 : (st.map fun v => v.category).sum + 13 ≤ lo) (d : decode cc pc = .ok (.invokestatic idx, 3)) (k : X cx nL Q h (pc + 3) lv (.int (imin x y) :: st)) : X cx nL Q h pc lv (.int y :: .int x :: st) := fun H locs ls a b c => va_mmin hC.hx hC.hb (hC.hml.trans c.1.symm) hC.hown (hC.hts _ w1) (hC.hts _ w2) (hC.hts _ w3) (hC.hts _ w4) (by rw [hC.rf]; exact hf) (by rw [hC.rl]; exact hl9) (by obtain ⟨r, a1, a2, a3⟩ := a; have := r.1; omega) (by obtain ⟨r, a1, a2, a3⟩ := a; omega) d (k H locs ls a b c)
theorem x_mabs (hC : Cx cx own cc nL fr lo rt h0) {idx : Nat} {x : Int32} (w1 : Cond.methodLink own idx Lib.Math.abs.name ∈ lw_all) (w2 : Cond.static Lib.Math.abs.name ∈ lw_all) (w3 : Cond.initialized "java/lang/Math" ∈ lw_all) (w4 : Cond.code Lib.Math.abs.name Lib.Math.abs.code 1 (some .int) ∈ lw_all) (hf : 1 ≤ fr) (hl9 : (st.map fun v => v.category).sum + 13 ≤ lo) (d : decode cc pc = .ok (.invokestatic idx, 3)) (k : X cx nL Q h (pc + 3) lv (.int (iabs x) :: st)) : X cx nL Q h pc lv (.int x :: st) := fun H locs ls a b c => va_mabs hC.hx hC.hb (hC.hml.trans c.1.symm) hC.hown (hC.hts _ w1) (hC.hts _ w2) (hC.hts _ w3) (hC.hts _ w4) (by rw [hC.rf]; exact hf) (by rw [hC.rl]; exact hl9) (by obtain ⟨r, a1, a2, a3⟩ := a; have := r.1; omega) (by obtain ⟨r, a1, a2, a3⟩ := a; omega) d (k H locs ls a b c)
theorem x_ldcw (hC : Cx cx own cc nL fr lo rt h0) {index : Nat} {v : Int32} (w : Cond.constant own index v ∈ lw_all) (d : decode cc pc = .ok (.ldc_w index, 3)) (k : X cx nL Q h (pc + 3) lv (.int v :: st)) : X cx nL Q h pc lv st := fun H locs ls a b c => lv_ldcw hC.hx hC.hb hC.hown (hC.hts _ w) d (k H locs ls a b c)
theorem x_putI (hC : Cx cx own cc nL fr lo rt h0) {κ k idx a : Nat} {v : Int32} (e : h' = wI h a k v) (hκ : hK h a = κ) (z : zIs κ = true) (hk : k < (zC κ).2.2) (lk : LkF own idx κ k) (hfin : ((zC κ).2.1 k).2.2.2 = false) (hty : zty κ k = .int) (d : decode cc pc = .ok (.putfield idx, 3)) (kk : X cx nL Q h' (pc + 3) lv st) : X cx nL Q h pc lv (.int v :: .ref a :: st) := by
  subst e
  exact x_put (h' := wI h a k v) hC hκ z hk lk hfin (by rw [hty]; exact vp_nar_int v) (by rw [hty]; rfl) rfl rfl rfl rfl rfl (by rw [hty]; exact congrArg Value.int (up2_s _ _ _ _)) (wI_o _ _ _ _) d kk
theorem x_putZ (hC : Cx cx own cc nL fr lo rt h0) {κ k idx a : Nat} {v : Int32} (e : h' = wI h a k v) (hb : bl v) (hκ : hK h a = κ) (z : zIs κ = true) (hk : k < (zC κ).2.2) (lk : LkF own idx κ k) (hfin : ((zC κ).2.1 k).2.2.2 = false) (hty : zty κ k = .boolean) (d : decode cc pc = .ok (.putfield idx, 3)) (kk : X cx nL Q h' (pc + 3) lv st) : X cx nL Q h pc lv (.int v :: .ref a :: st) := by
  subst e
  exact x_put (h' := wI h a k v) hC hκ z hk lk hfin (by rw [hty]; exact bl_n hb) (by rw [hty]; exact bl_f hb) rfl rfl rfl rfl rfl (by rw [hty]; exact congrArg Value.int (up2_s _ _ _ _)) (wI_o _ _ _ _) d kk
theorem x_putJ (hC : Cx cx own cc nL fr lo rt h0) {κ k idx a : Nat} {v : Int64} (e : h' = wJ h a k v) (hκ : hK h a = κ) (z : zIs κ = true) (hk : k < (zC κ).2.2) (lk : LkF own idx κ k) (hfin : ((zC κ).2.1 k).2.2.2 = false) (hty : zty κ k = .long) (d : decode cc pc = .ok (.putfield idx, 3)) (kk : X cx nL Q h' (pc + 3) lv st) : X cx nL Q h pc lv (.long v :: .ref a :: st) := by
  subst e
  exact x_put (h' := wJ h a k v) hC hκ z hk lk hfin (by rw [hty]; rfl) (by rw [hty]; rfl) rfl rfl rfl rfl rfl (by rw [hty]; exact congrArg Value.long (up2_s _ _ _ _)) (wJ_o _ _ _ _) d kk
theorem x_iastE (hC : Cx cx own cc nL fr lo rt h0) {a : Nat} {i : Int32} {v : Int32} (e : h' = wI h a (ix i) v) (hκ : hK h a = 100) (hi : inb i (hL h a)) (d : decode cc pc = .ok (.iastore, 1)) (kk : X cx nL Q h' (pc + 1) lv st) : X cx nL Q h pc lv (.int v :: .int i :: .ref a :: st) := by subst e; exact x_iast hC hκ hi d kk
theorem x_bastE (hC : Cx cx own cc nL fr lo rt h0) {a : Nat} {i : Int32} {v : Int32} (e : h' = wI h a (ix i) (v.toInt8.toInt32)) (hκ : hK h a = 101) (hi : inb i (hL h a)) (d : decode cc pc = .ok (.bastore, 1)) (kk : X cx nL Q h' (pc + 1) lv st) : X cx nL Q h pc lv (.int v :: .int i :: .ref a :: st) := by subst e; exact x_bast hC hκ hi d kk
theorem x_lastE (hC : Cx cx own cc nL fr lo rt h0) {a : Nat} {i : Int32} {v : Int64} (e : h' = wJ h a (ix i) v) (hκ : hK h a = 102) (hi : inb i (hL h a)) (d : decode cc pc = .ok (.lastore, 1)) (kk : X cx nL Q h' (pc + 1) lv st) : X cx nL Q h pc lv (.long v :: .int i :: .ref a :: st) := by subst e; exact x_last hC hκ hi d kk
theorem x_sastE (hC : Cx cx own cc nL fr lo rt h0) {a : Nat} {i : Int32} {v : Int32} (e : h' = wI h a (ix i) (v.toInt16.toInt32)) (hκ : hK h a = 103) (hi : inb i (hL h a)) (d : decode cc pc = .ok (.sastore, 1)) (kk : X cx nL Q h' (pc + 1) lv st) : X cx nL Q h pc lv (.int v :: .int i :: .ref a :: st) := by subst e; exact x_sast hC hκ hi d kk
theorem x_zastE (hC : Cx cx own cc nL fr lo rt h0) {a : Nat} {i : Int32} {v : Int32} (e : h' = wI h a (ix i) (v &&& 1)) (hκ : hK h a = 104) (hi : inb i (hL h a)) (d : decode cc pc = .ok (.bastore, 1)) (kk : X cx nL Q h' (pc + 1) lv st) : X cx nL Q h pc lv (.int v :: .int i :: .ref a :: st) := by subst e; exact x_zast hC hκ hi d kk
theorem x_callVr (hC : Cx cx own cc nL fr lo rt h0) {y : MethodName} {bytes : ByteArray} {maxL idx κ b fr2 lo2 : Nat} {ret : Option FieldType} {As stk : List Value} {v : Value} (hM : zM cx.G cx.l y (ws_ y bytes maxL ret) fr2 lo2 (.ref b :: As) h (.inl (some v)) h')
    (hκ : hK h b = κ) (z : zIs κ = true) (w1 : Cond.methodLink own idx y ∈ lw_all) (w2 : Cond.instanceMethod y ∈ lw_all) (w3 : Cond.selects (zC κ).1 y y ∈ lw_all) (w4 : Cond.code y bytes maxL ret ∈ lw_all) (w5 : Cond.initialized y.cls ∈ lw_all)
    (hy : y.cls ≠ "java/lang/invoke/MethodHandle" ∧ y.cls ≠ "java/lang/invoke/VarHandle" ∧ (parseMethodDescriptor y.desc).map (fun d => d.parameters.length) = some As.length) (hR : fr2 + 1 ≤ fr ∧ 8 + (maxL + 11) + lo2 ≤ lo)
    (hst : (st.map fun v => v.category).sum ≤ 8) (hstk : As.reverse ++ .ref b :: st = stk) (d : decode cc pc = .ok (.invokevirtual idx, 3)) (k : X cx nL Q h' (pc + 3) lv (v :: st)) : X cx nL Q h pc lv stk := by
  subst hstk
  exact x_callV hC hM hκ z w1 w2 w3 w4 w5 hy hR hst d (fun v' e => by cases e; exact k) (fun E q e => by cases e)
theorem x_callVv (hC : Cx cx own cc nL fr lo rt h0) {y : MethodName} {bytes : ByteArray} {maxL idx κ b fr2 lo2 : Nat} {ret : Option FieldType} {As stk : List Value} (hM : zM cx.G cx.l y (ws_ y bytes maxL ret) fr2 lo2 (.ref b :: As) h (.inl none) h')
    (hκ : hK h b = κ) (z : zIs κ = true) (w1 : Cond.methodLink own idx y ∈ lw_all) (w2 : Cond.instanceMethod y ∈ lw_all) (w3 : Cond.selects (zC κ).1 y y ∈ lw_all) (w4 : Cond.code y bytes maxL ret ∈ lw_all) (w5 : Cond.initialized y.cls ∈ lw_all)
    (hy : y.cls ≠ "java/lang/invoke/MethodHandle" ∧ y.cls ≠ "java/lang/invoke/VarHandle" ∧ (parseMethodDescriptor y.desc).map (fun d => d.parameters.length) = some As.length) (hR : fr2 + 1 ≤ fr ∧ 8 + (maxL + 11) + lo2 ≤ lo)
    (hst : (st.map fun v => v.category).sum ≤ 8) (hstk : As.reverse ++ .ref b :: st = stk) (d : decode cc pc = .ok (.invokevirtual idx, 3)) (k : X cx nL Q h' (pc + 3) lv st) : X cx nL Q h pc lv stk := by
  subst hstk
  exact x_callV hC hM hκ z w1 w2 w3 w4 w5 hy hR hst d (fun v' e => by cases e; exact k) (fun E q e => by cases e)
theorem x_callSr (hC : Cx cx own cc nL fr lo rt h0) {y : MethodName} {bytes : ByteArray} {maxL idx fr2 lo2 : Nat} {ret : Option FieldType} {As stk : List Value} {v : Value} (hM : zM cx.G cx.l y (ws_ y bytes maxL ret) fr2 lo2 As h (.inl (some v)) h')
    (w1 : Cond.methodLink own idx y ∈ lw_all) (w2 : Cond.static y ∈ lw_all) (w4 : Cond.code y bytes maxL ret ∈ lw_all) (w5 : Cond.initialized y.cls ∈ lw_all)
    (hy : y.cls ≠ "java/lang/invoke/MethodHandle" ∧ y.cls ≠ "java/lang/invoke/VarHandle" ∧ (parseMethodDescriptor y.desc).map (fun d => d.parameters.length) = some As.length) (hR : fr2 + 1 ≤ fr ∧ 8 + (maxL + 11) + lo2 ≤ lo)
    (hst : (st.map fun v => v.category).sum ≤ 8) (hstk : As.reverse ++ st = stk) (d : decode cc pc = .ok (.invokestatic idx, 3)) (k : X cx nL Q h' (pc + 3) lv (v :: st)) : X cx nL Q h pc lv stk := by
  subst hstk
  exact x_callS hC hM w1 w2 w4 w5 hy hR hst d (fun v' e => by cases e; exact k) (fun E q e => by cases e)
end XG
