/-! PURE AA: what is asked is looked at ahead of what follows; writes under a frame -/
set_option maxRecDepth 100000
theorem bd_m {α β : Type} (x : Option α) (f : α → Option β) : Option.bind x f = match x with
  | none => none
  | some b => f b := by cases x <;> rfl
theorem on_m {α : Type} (x : Option Nat) (A : Option α) (B : Nat → Option α) : on x A B = match x with
  | none => A
  | some b => B b := by cases x <;> rfl
theorem ec_m {T α : Type} (x : Option (ER T)) (A : T → AH → Option α) (B : Nat → Nat → AH → Option α) : ec x A B = match x with
  | none => none
  | some (.inl p) => A p.1 p.2
  | some (.inr p) => B p.1 p.2.1 p.2.2 := by
  cases x with
  | none => rfl
  | some y => cases y <;> rfl
theorem fw2 {α : Type} {P : Nat → Prop} {h g : AH} {a k : Nat} {v : Int32} {K : AH → Option α} {Q : α → Prop} (T : tf P h g) (ha : P a) (H : ∀ g', tf P h g' → hI g' a k = v → (∀ c j, ¬ (c = a ∧ j = k) → hI g' c j = hI g c j) → hJ g' = hJ g → Ok1 (K g') Q) : Ok1 (lh (wI g a k v) K) Q :=
  H _ (T.trans (tf_wI ha)) (by rw [hI_wI, if_pos ⟨rfl, rfl⟩]) (fun c j q => by rw [hI_wI, if_neg q]) rfl
theorem fwJ {α : Type} {P : Nat → Prop} {h g : AH} {a k : Nat} {v : Int64} {K : AH → Option α} {Q : α → Prop} (T : tf P h g) (ha : P a) (H : ∀ g', tf P h g' → hJ g' a k = v → (∀ c j, ¬ (c = a ∧ j = k) → hJ g' c j = hJ g c j) → hI g' = hI g → Ok1 (K g') Q) : Ok1 (lh (wJ g a k v) K) Q :=
  H _ (T.trans (tf_wJ ha)) (by rw [hJ_wJ, if_pos ⟨rfl, rfl⟩]) (fun c j q => by rw [hJ_wJ, if_neg q]) rfl
theorem fwL {α β : Type} {P : Nat → Prop} {h g : AH} {a k : Nat} {v : Int32} {K : AH → Option α} {Y : Option β} {R : α → β → Prop} (T : tf P h g) (ha : P a) (H : ∀ g', tf P h g' → hI g' a k = v → (∀ c j, ¬ (c = a ∧ j = k) → hI g' c j = hI g c j) → hJ g' = hJ g → Ok2 (K g') Y R) : Ok2 (lh (wI g a k v) K) Y R :=
  H _ (T.trans (tf_wI ha)) (by rw [hI_wI, if_pos ⟨rfl, rfl⟩]) (fun c j q => by rw [hI_wI, if_neg q]) rfl
theorem fwLJ {α β : Type} {P : Nat → Prop} {h g : AH} {a k : Nat} {v : Int64} {K : AH → Option α} {Y : Option β} {R : α → β → Prop} (T : tf P h g) (ha : P a) (H : ∀ g', tf P h g' → hJ g' a k = v → (∀ c j, ¬ (c = a ∧ j = k) → hJ g' c j = hJ g c j) → hI g' = hI g → Ok2 (K g') Y R) : Ok2 (lh (wJ g a k v) K) Y R :=
  H _ (T.trans (tf_wJ ha)) (by rw [hJ_wJ, if_pos ⟨rfl, rfl⟩]) (fun c j q => by rw [hJ_wJ, if_neg q]) rfl
theorem fwR {α β : Type} {P : Nat → Prop} {h g : AH} {a k : Nat} {v : Int32} {K : AH → Option β} {X : Option α} {R : α → β → Prop} (T : tf P h g) (ha : P a) (H : ∀ g', tf P h g' → hI g' a k = v → (∀ c j, ¬ (c = a ∧ j = k) → hI g' c j = hI g c j) → hJ g' = hJ g → Ok2 X (K g') R) : Ok2 X (lh (wI g a k v) K) R :=
  H _ (T.trans (tf_wI ha)) (by rw [hI_wI, if_pos ⟨rfl, rfl⟩]) (fun c j q => by rw [hI_wI, if_neg q]) rfl
theorem fwRJ {α β : Type} {P : Nat → Prop} {h g : AH} {a k : Nat} {v : Int64} {K : AH → Option β} {X : Option α} {R : α → β → Prop} (T : tf P h g) (ha : P a) (H : ∀ g', tf P h g' → hJ g' a k = v → (∀ c j, ¬ (c = a ∧ j = k) → hJ g' c j = hJ g c j) → hI g' = hI g → Ok2 X (K g') R) : Ok2 X (lh (wJ g a k v) K) R :=
  H _ (T.trans (tf_wJ ha)) (by rw [hJ_wJ, if_pos ⟨rfl, rfl⟩]) (fun c j q => by rw [hJ_wJ, if_neg q]) rfl
