/-! BASE 2: how the abstract heap follows the machine's: stores, new cells; rows of fields and arrays -/
set_option maxRecDepth 100000
theorem SLs_same {H H1 : Heap} {z : Nat} (hz : H1.size = H.size) (hq : ∀ q : Nat, (H1[q]?).map (·.slots.size) = (H[q]?).map (·.slots.size)) : SLs H1 z = SLs H z := by
  have h : H1.toList.map (·.slots.size) = H.toList.map (·.slots.size) := by
    apply List.ext_getElem?
    intro i
    rw [List.getElem?_map, List.getElem?_map, Array.getElem?_toList, Array.getElem?_toList]
    exact hq i
  unfold SLs
  rw [List.map_drop, List.map_drop, h]
theorem SLs_push {H H1 : Heap} {z : Nat} {cell : Cell} (hz : H1.size = H.size + 1) (hc : H1[H.size]? = some cell) (hq : ∀ q : Nat, q < H.size → H1[q]? = H[q]?) (hl : z ≤ H.size) : SLs H1 z = SLs H z + cell.slots.size := by
  have h : H1 = H.push cell := by
    apply Array.ext_getElem?
    intro i
    rcases Nat.lt_trichotomy i H.size with q | q | q
    · rw [hq i q, Array.getElem?_push, if_neg (by omega)]
    · rw [q, hc, Array.getElem?_push, if_pos rfl]
    · rw [Array.getElem?_eq_none (by omega), Array.getElem?_eq_none (by rw [Array.size_push]; omega)]
  subst h
  unfold SLs
  rw [Array.toList_push, List.drop_append_of_le_length (by rw [Array.length_toList]; exact hl), List.map_append, List.sum_append]
  simp
section W1
variable {p : Program} {l : Launch} {e : Env} {R : Room} {s : State} {m : MethodId} {args : Array Value} {below : List Frame} {meth : Method} {c : Code} {H : Heap} {locs : List Loc} {cells slots : Nat} {Q : State → Prop}
theorem stand_tight {T : State} (X : Stand p l e R s m args below meth c T locs cells slots) : Stand p l e R s m args below meth c T locs (T.heap.size - s.heap.size) (SLs T.heap s.heap.size) := by
  obtain ⟨e1, h1, h2, h3, h4, h5⟩ := X.same
  exact { X with same := ⟨e1, h1, by have h1' : s.heap.size ≤ T.heap.size := h1; show T.heap.size ≤ s.heap.size + (T.heap.size - s.heap.size); omega, h3, Nat.le_refl _, h5⟩ }
theorem W_tight {g : JFrame} (k : W p l e R s m args below meth c H locs (H.size - s.heap.size) (SLs H s.heap.size) Q g) : W p l e R s m args below meth c H locs cells slots Q g := by
  intro T hT X
  subst hT
  exact k T rfl (stand_tight X)
theorem stand_size {T : State} (X : Stand p l e R s m args below meth c T locs cells slots) : s.heap.size ≤ T.heap.size := X.same.2.1
end W1
theorem fv_int {h : AH} {a k : Nat} {ty : FieldType} {h' : AH} (hi : hI h' a k = hI h a k) (hj : hJ h' a k = hJ h a k) (hr : hR h' a k = hR h a k) : fv h' a ty k = fv h a ty k := by
  unfold fv
  rw [hi, hj, hr]
theorem Rp.lt {Γ : zG} {h : AH} {H : Heap} (r : Rp Γ h H) {a κ : Nat} (hκ : hK h a = κ) (z : zIs κ = true ∨ zAr κ = true) : (κ ≠ 120 → z0 Γ ≤ a) ∧ a < hn h := by
  obtain ⟨r1, -, -, hO, hA, -⟩ := r
  rw [← r1]
  rcases z with z | z
  · obtain ⟨q, cell, q1, -⟩ := hO a κ hκ z
    exact ⟨fun _ => q, (Array.getElem?_eq_some_iff.mp q1).1⟩
  · obtain ⟨q, q1⟩ := hA a κ hκ z
    exact ⟨q, (Array.getElem?_eq_some_iff.mp q1).1⟩
theorem zIs_120 {κ : Nat} (z : zIs κ = true) : κ ≠ 120 := fun e => by subst e; cases z
theorem Rp.szc {Γ : zG} {h : AH} {H : Heap} (r : Rp Γ h H) : H.size = hn h := r.1
theorem z_not_both {κ : Nat} (z : zIs κ = true) : ¬ zAr κ = true := by
  have h1 : κ ∈ zks := List.contains_iff_mem.mp z
  simp only [zks, List.mem_cons, List.not_mem_nil, or_false] at h1
  intro q
  simp [zAr] at q
  omega
/-- a field of an object stored -/
theorem Rp.putO {Γ : zG} {h h' : AH} {H H1 : Heap} (r : Rp Γ h H) {a κ k : Nat} (hκ : hK h a = κ) (z : zIs κ = true) {cell : Cell} {v : Value} (q1 : H[a]? = some cell) (q2 : cell.cls = Γ.1 κ) (q3 : cell.vm = .none)
    (e1 : H1[a]? = some (cell.setSlot (Γ.2.1 κ k) v)) (q4 : ∀ j, j < (zC κ).2.2 → (cell.setSlot (Γ.2.1 κ k) v).slots[Γ.2.1 κ j]? = some (updV (fun k => fv h a (zty κ k) k) k v j)) (e2 : H1.size = H.size) (e3 : ∀ q, q ≠ a → H1[q]? = H[q]?)
    (n1 : hn h' = hn h) (n3 : hK h' = hK h) (n4 : hL h' = hL h) (hv : fv h' a (zty κ k) k = v)
    (ho : ∀ b j, ¬ (b = a ∧ j = k) → hI h' b j = hI h b j ∧ hJ h' b j = hJ h b j ∧ hR h' b j = hR h b j) : Rp Γ h' H1 := by
  obtain ⟨r1, r2, r6, hO, hA, hSt⟩ := r
  have hlt0 := Rp.lt (h := h) ⟨r1, r2, r6, hO, hA, hSt⟩ hκ (Or.inl z)
  have hlt : z0 Γ ≤ a := hlt0.1 (zIs_120 z)
  refine ⟨by rw [e2, n1, r1], by rw [n1]; exact r2, fun q hq => by rw [e3 q (by omega)]; exact r6 q hq, fun b κ' hb z' => ?_, fun b κ' hb z' => ?_, fun j C n d hj => by have := hSt.2.1; rw [(ho 0 j (fun q => by omega)).2.2]; exact hSt.1 j C n d hj, hSt.2.1, fun ε hε => by have := hSt.2.1; rw [(ho 0 0 (fun q => by omega)).2.2] at hε; rw [n3, n4]; exact hSt.2.2 ε hε⟩
  · rw [n3] at hb
    obtain ⟨g1, cb, g2, g3, g4, g5⟩ := hO b κ' hb z'
    refine ⟨g1, ?_⟩
    by_cases hba : b = a
    · subst hba
      have hkk : κ' = κ := hb.symm.trans hκ
      subst hkk
      refine ⟨_, e1, by simpa [Cell.setSlot] using q2, by simpa [Cell.setSlot] using q3, fun j hj => ?_⟩
      rw [q4 j hj]
      congr 1
      unfold updV
      by_cases hjk : j = k
      · rw [if_pos hjk, hjk]; exact hv.symm
      · rw [if_neg hjk]
        obtain ⟨o1, o2, o3⟩ := ho b j (fun q => hjk q.2)
        exact (fv_int o1 o2 o3).symm
    · refine ⟨cb, (e3 b hba).trans g2, g3, g4, fun j hj => ?_⟩
      rw [g5 j hj]
      obtain ⟨o1, o2, o3⟩ := ho b j (fun q => hba q.1)
      exact congrArg some (fv_int o1 o2 o3).symm
  · rw [n3] at hb
    obtain ⟨g1, g2⟩ := hA b κ' hb z'
    have hba : b ≠ a := fun q => by
      subst q
      have hkk : κ' = κ := hb.symm.trans hκ
      subst hkk
      exact z_not_both z z'
    refine ⟨g1, ?_⟩
    rw [e3 b hba, g2, n4]
    congr 2
    funext i
    obtain ⟨o1, o2, o3⟩ := ho b i (fun q => hba q.1)
    exact (fv_int o1 o2 o3).symm
/-- an element of an array stored -/
theorem Rp.putA {Γ : zG} {h h' : AH} {H H1 : Heap} (r : Rp Γ h H) {a κ k : Nat} (hκ : hK h a = κ) (z : zAr κ = true) (h120 : κ ≠ 120) {v : Value} (e1 : H1[a]? = some (arrV (Γ.2.2.1 κ) (hL h a) (updV (fun i => fv h a (aty κ) i) k v))) (e2 : H1.size = H.size) (e3 : ∀ q, q ≠ a → H1[q]? = H[q]?)
    (n1 : hn h' = hn h) (n3 : hK h' = hK h) (n4 : hL h' = hL h) (hv : fv h' a (aty κ) k = v)
    (ho : ∀ b j, ¬ (b = a ∧ j = k) → hI h' b j = hI h b j ∧ hJ h' b j = hJ h b j ∧ hR h' b j = hR h b j) : Rp Γ h' H1 := by
  obtain ⟨r1, r2, r6, hO, hA, hSt⟩ := r
  have hlt0 := Rp.lt (h := h) ⟨r1, r2, r6, hO, hA, hSt⟩ hκ (Or.inr z)
  have hlt : z0 Γ ≤ a := hlt0.1 h120
  obtain ⟨-, q1⟩ := hA a κ hκ z
  refine ⟨by rw [e2, n1, r1], by rw [n1]; exact r2, fun q hq => by rw [e3 q (by omega)]; exact r6 q hq, fun b κ' hb z' => ?_, fun b κ' hb z' => ?_, fun j C n d hj => by have := hSt.2.1; rw [(ho 0 j (fun q => by omega)).2.2]; exact hSt.1 j C n d hj, hSt.2.1, fun ε hε => by have := hSt.2.1; rw [(ho 0 0 (fun q => by omega)).2.2] at hε; rw [n3, n4]; exact hSt.2.2 ε hε⟩
  · rw [n3] at hb
    obtain ⟨g1, cb, g2, g3, g4, g5⟩ := hO b κ' hb z'
    have hba : b ≠ a := fun q => by
      subst q
      have hkk : κ' = κ := hb.symm.trans hκ
      subst hkk
      exact z_not_both z' z
    refine ⟨g1, cb, (e3 b hba).trans g2, g3, g4, fun j hj => ?_⟩
    rw [g5 j hj]
    obtain ⟨o1, o2, o3⟩ := ho b j (fun q => hba q.1)
    exact congrArg some (fv_int o1 o2 o3).symm
  · rw [n3] at hb
    obtain ⟨g1, g2⟩ := hA b κ' hb z'
    refine ⟨g1, ?_⟩
    by_cases hba : b = a
    · subst hba
      have hkk : κ' = κ := hb.symm.trans hκ
      subst hkk
      rw [e1, n4]
      congr 2
      funext i
      unfold updV
      by_cases hik : i = k
      · rw [if_pos hik, hik, hv]
      · rw [if_neg hik]
        obtain ⟨o1, o2, o3⟩ := ho b i (fun q => hik q.2)
        exact (fv_int o1 o2 o3).symm
    · rw [e3 b hba, g2, n4]
      congr 2
      funext i
      obtain ⟨o1, o2, o3⟩ := ho b i (fun q => hba q.1)
      exact (fv_int o1 o2 o3).symm
theorem up2_o {α : Type} (f : Nat → Nat → α) (a k : Nat) (x : α) {b j : Nat} (h : ¬ (b = a ∧ j = k)) : up2 f a k x b j = f b j := by
  unfold up2
  rw [if_neg h]
theorem up2_s {α : Type} (f : Nat → Nat → α) (a k : Nat) (x : α) : up2 f a k x a k = x := by
  unfold up2
  rw [if_pos ⟨rfl, rfl⟩]
theorem wI_o (h : AH) (a k : Nat) (x : Int32) : ∀ b j, ¬ (b = a ∧ j = k) → hI (wI h a k x) b j = hI h b j ∧ hJ (wI h a k x) b j = hJ h b j ∧ hR (wI h a k x) b j = hR h b j := fun b j q => ⟨up2_o (hI h) a k x q, rfl, rfl⟩
theorem wJ_o (h : AH) (a k : Nat) (x : Int64) : ∀ b j, ¬ (b = a ∧ j = k) → hI (wJ h a k x) b j = hI h b j ∧ hJ (wJ h a k x) b j = hJ h b j ∧ hR (wJ h a k x) b j = hR h b j := fun b j q => ⟨rfl, up2_o (hJ h) a k x q, rfl⟩
theorem wR_o (h : AH) (a k : Nat) (x : Option Nat) : ∀ b j, ¬ (b = a ∧ j = k) → hI (wR h a k x) b j = hI h b j ∧ hJ (wR h a k x) b j = hJ h b j ∧ hR (wR h a k x) b j = hR h b j := fun b j q => ⟨rfl, rfl, up2_o (hR h) a k x q⟩
theorem Rq.put {x : zX} {h h' : AH} {H H1 : Heap} {a i : Nat} {cell : Cell} {v : Value} (r : Rq x h H) (q1 : H[a]? = some cell) (e1 : H1[a]? = some (cell.setSlot i v)) (e2 : H1.size = H.size) (e3 : ∀ q, q ≠ a → H1[q]? = H[q]?) (n1 : hn h' = hn h) (n0 : hc h' = hc h) (n2 : hs h' = hs h) (k : Rp x.G h' H1) : Rq x h' H1 := by
  obtain ⟨-, a1, a2, a3⟩ := r
  have hsl : SLs H1 x.s.heap.size = SLs H x.s.heap.size := by
    refine SLs_same e2 fun q => ?_
    by_cases hq : q = a
    · subst hq
      rw [e1, q1]
      simp [Cell.setSlot]
    · rw [e3 q hq]
  exact ⟨k, by rw [n1]; exact a1, by rw [n1, n0]; exact a2, by rw [hsl, n2]; exact a3⟩
theorem Rq.new {x : zX} {h : AH} {H H1 : Heap} {κ len sl : Nat} {cell : Cell} (r : Rq x h H) (hz : H1.size = H.size + 1) (hcl : H1[H.size]? = some cell) (hq : ∀ q : Nat, q < H.size → H1[q]? = H[q]?) (g1 : 1 ≤ hc h) (g2 : sl ≤ hs h) (hsl : cell.slots.size ≤ sl) (k : Rp x.G (nw h κ len sl) H1) : Rq x (nw h κ len sl) H1 := by
  obtain ⟨a0, a1, a2, a3⟩ := r
  have h0 := a0.1
  have e1 : SLs H1 x.s.heap.size = SLs H x.s.heap.size + cell.slots.size := SLs_push hz hcl hq (by omega)
  exact ⟨k, by show _ ≤ hn h + 1; omega, by show hn h + 1 + (hc h - 1) ≤ _; omega, by show _ + (hs h - sl) ≤ _; omega⟩
/-- the link of a field access: own's entry idx is field k of kind κ -/
def LkD (own : String) (idx κ k : Nat) : Prop := ∃ ref, Cond.fieldLink own idx ref ((zC κ).2.1 k).2.1 ((zC κ).2.1 k).2.2.1 ∈ lw_all ∧ (ref = ((zC κ).2.1 k).1 ∨ Cond.sameField ref ((zC κ).2.1 k).1 ((zC κ).2.1 k).2.1 ((zC κ).2.1 k).2.2.1 ∈ lw_all)
def LkF (own : String) (idx κ k : Nat) : Prop := LkD own idx κ k ∨
  ∃ ref host, Cond.fieldLinkNest own idx ref ((zC κ).2.1 k).2.1 ((zC κ).2.1 k).2.2.1 host ∈ lw_tbl ∧ ref = ((zC κ).2.1 k).1
section XF
variable {cx : zX} {own : String} {cc : ByteArray} {nL fr lo : Nat} {rt : Option FieldType} {h0 : AH} {Q : State → Prop} {h : AH} {pc : Nat} {lv lv' : List (Nat × Value)} {st : List Value}
theorem Cx.nest (hC : Cx cx own cc nL fr lo rt h0) {o : String} {i : Nat} {r n d host : String} (w : Cond.fieldLinkNest o i r n d host ∈ lw_tbl) : (Cond.fieldLinkNest o i r n d host).before cx.a cx.s = true := va_Nw.use rfl (va_Nw.warmF hC.warm (va_Nw.of rfl (hC.g0.1 _ w)))
theorem x_get (hC : Cx cx own cc nL fr lo rt h0) {κ k idx a : Nat} {v : Value} (hκ : hK h a = κ) (z : zIs κ = true) (hk : k < (zC κ).2.2) (lk : LkF own idx κ k) (hv : fv h a (zty κ k) k = v) (d : decode cc pc = .ok (.getfield idx, 3)) (kk : X cx nL Q h (pc + 3) lv (v :: st)) : X cx nL Q h pc lv (.ref a :: st) := by
  intro H locs ls hRp hl hlv
  obtain ⟨hz, cell, q1, q2, q3, q4⟩ := hRp.1.2.2.2.1 a κ hκ z
  obtain ⟨hS, hfc, kC, hkC, hkind⟩ := hC.kn z
  obtain ⟨cf, kf, fi, f, hi, hsl⟩ := hS k hk
  have hst := (u_facts hfc hkC (u_lays hC.hts (zok z).1 hk) hi).1
  have hslot : cell.slots[f.slot]? = some v := by rw [hsl, q4 k hk]; exact congrArg some hv
  rcases lk with ⟨ref, w, hs⟩ | ⟨ref, host, w, hs⟩
  · refine W.getf hC.hx hC.hb hC.hown (hC.hts _ w) (i := fi) (k := kf) (cf := cf) ?_ hst q1 (by rw [q3]; exact fun h => by cases h) hslot rfl rfl d (kk H locs ls hRp hl hlv)
    rcases hs with rfl | hs
    · exact hi
    · exact u_same (hC.hts _ hs) _ hi
  · refine va_Wgetf hC.hx hC.hb hC.hown (hC.nest w) (i := fi) (k := kf) (cf := cf) ?_ hst q1 (by rw [q3]; exact fun h => by cases h) hslot rfl rfl d (kk H locs ls hRp hl hlv)
    subst hs
    exact hi
theorem x_getR (hC : Cx cx own cc nL fr lo rt h0) {κ k idx a b : Nat} (hκ : hK h a = κ) (z : zIs κ = true) (hk : k < (zC κ).2.2) (lk : LkF own idx κ k) (hv : fv h a (zty κ k) k = rv (hR h a k)) (hb : hR h a k = some b) (d : decode cc pc = .ok (.getfield idx, 3)) (kk : X cx nL Q h (pc + 3) lv (.ref b :: st)) : X cx nL Q h pc lv (.ref a :: st) := x_get hC hκ z hk lk (by rw [hv, hb]; rfl) d kk
theorem x_getN (hC : Cx cx own cc nL fr lo rt h0) {κ k idx a : Nat} (hκ : hK h a = κ) (z : zIs κ = true) (hk : k < (zC κ).2.2) (lk : LkF own idx κ k) (hv : fv h a (zty κ k) k = rv (hR h a k)) (hb : hR h a k = none) (d : decode cc pc = .ok (.getfield idx, 3)) (kk : X cx nL Q h (pc + 3) lv (.null :: st)) : X cx nL Q h pc lv (.ref a :: st) := x_get hC hκ z hk lk (by rw [hv, hb]; rfl) d kk
theorem Cx.apart (hC : Cx cx own cc nL fr lo rt h0) {κ : Nat} (z : zIs κ = true) : ∀ x y, x < (zC κ).2.2 → y < (zC κ).2.2 → x ≠ y → cx.G.2.1 κ x ≠ cx.G.2.1 κ y := by
  intro x y hx hy hxy
  obtain ⟨hS, hfc, kC, hkC, hkind⟩ := hC.kn z
  obtain ⟨cf, kf, fi, fd, hi, he⟩ := hS x hx
  obtain ⟨cf', kf', fi', fd', hi', he'⟩ := hS y hy
  rw [← he, ← he']
  refine u_apart (u_lays hC.hts (zok z).1 hx) (u_lays hC.hts (zok z).1 hy) hi hi' ?_
  rw [(State.fieldFound?_type hi ((zok z).2.1 x hx)).1, (State.fieldFound?_type hi' ((zok z).2.1 y hy)).1]
  exact (zok z).2.2 x hx y hy hxy
/-- a store into a field that is not final -/
theorem x_put (hC : Cx cx own cc nL fr lo rt h0) {κ k idx a : Nat} {v : Value} {h' : AH} (hκ : hK h a = κ) (z : zIs κ = true) (hk : k < (zC κ).2.2) (lk : LkF own idx κ k) (hfin : ((zC κ).2.1 k).2.2.2 = false) (hn9 : narrow (zty κ k) v = v) (hfit : fits (zty κ k) v = true)
    (n1 : hn h' = hn h) (n0 : hc h' = hc h) (n2 : hs h' = hs h) (n3 : hK h' = hK h) (n4 : hL h' = hL h) (hv : fv h' a (zty κ k) k = v) (ho : ∀ b j, ¬ (b = a ∧ j = k) → hI h' b j = hI h b j ∧ hJ h' b j = hJ h b j ∧ hR h' b j = hR h b j)
    (d : decode cc pc = .ok (.putfield idx, 3)) (kk : X cx nL Q h' (pc + 3) lv st) : X cx nL Q h pc lv (v :: .ref a :: st) := by
  intro H locs ls hRp hl hlv
  obtain ⟨hz, cell, q1, q2, q3, q4⟩ := hRp.1.2.2.2.1 a κ hκ z
  obtain ⟨hS, hfc, kC, hkC, hkind⟩ := hC.kn z
  obtain ⟨cf, kf, fi, f, hi, hsl⟩ := hS k hk
  have hlay := hC.hts _ ((zok z).1 _ (u_in_lay hk))
  unfold u_lay at hlay
  rw [if_neg (by rw [hfin]; decide)] at hlay
  have hst := (u_facts hfc hkC (u_lays hC.hts (zok z).1 hk) hi).1
  have h6 := u_store hfc hkC hkind hlay hi ((zok z).2.1 k hk) hn9 hfit
  have fin : ∀ H' : Heap, H'[a]? = some (cell.setSlot f.slot v) → H'.size = H.size → (∀ q, q ≠ a → H'[q]? = H[q]?) → cx.W H' (locs ++ [⟨a, f.slot⟩]) (H.size - cx.s.heap.size) (SLs H cx.s.heap.size) Q (F0 cx.m (pc + 3) ls st) := by
    intro H' e1 e2 e3
    rw [hsl] at e1
    refine W_tight (kk H' _ ls (hRp.put q1 e1 e2 e3 n1 n0 n2 (hRp.1.putO (h' := h') hκ z q1 q2 q3 e1 (fun j hj => t_set q4 (hC.apart z) hk v j hj) e2 e3 n1 n3 n4 hv ho)) ?_ hlv)
    exact t_lc hl hz
  rcases lk with ⟨ref, w, hs⟩ | ⟨ref, host, w, hs⟩
  · refine W.putK hC.hx hC.hb (f := f) ⟨hC.hown, hC.hts _ w, ⟨cf, kf, fi, ?_⟩, hst⟩ (by rw [q2]; exact h6) q1 q3 (by rw [hsl]; exact k2_hasslot (q4 k hk)) rfl rfl d fin
    rcases hs with rfl | hs
    · exact hi
    · exact u_same (hC.hts _ hs) _ hi
  · refine va_WputK hC.hx hC.hb (f := f) hC.hown (hC.nest w) (by subst hs; exact hi) hst (by rw [q2]; exact h6) q1 q3 (by rw [hsl]; exact k2_hasslot (q4 k hk)) rfl rfl d fin
/-- a store into a final field, in a constructor -/
theorem x_putF (hC : Cx cx own cc nL fr lo rt h0) {κ k idx a : Nat} {v : Value} {h' : AH} (hκ : hK h a = κ) (z : zIs κ = true) (hk : k < (zC κ).2.2) (lk : LkD own idx κ k) (hfin : ((zC κ).2.1 k).2.2.2 = true) (hin2 : cx.M.name = "<init>") (hdecl : ((zC κ).2.1 k).1 = own) (hn9 : narrow (zty κ k) v = v) (hfit : fits (zty κ k) v = true)
    (n1 : hn h' = hn h) (n0 : hc h' = hc h) (n2 : hs h' = hs h) (n3 : hK h' = hK h) (n4 : hL h' = hL h) (hv : fv h' a (zty κ k) k = v) (ho : ∀ b j, ¬ (b = a ∧ j = k) → hI h' b j = hI h b j ∧ hJ h' b j = hJ h b j ∧ hR h' b j = hR h b j)
    (d : decode cc pc = .ok (.putfield idx, 3)) (kk : X cx nL Q h' (pc + 3) lv st) : X cx nL Q h pc lv (v :: .ref a :: st) := by
  intro H locs ls hRp hl hlv
  obtain ⟨hz, cell, q1, q2, q3, q4⟩ := hRp.1.2.2.2.1 a κ hκ z
  obtain ⟨hS, hfc, kC, hkC, hkind⟩ := hC.kn z
  obtain ⟨cf, kf, fi, f, hi, hsl⟩ := hS k hk
  have hlay := hC.hts _ ((zok z).1 _ (u_in_lay hk))
  unfold u_lay at hlay
  rw [if_pos hfin] at hlay
  have hst := (u_facts hfc hkC (u_lays hC.hts (zok z).1 hk) hi).1
  have hcf : cx.m.cls = cf := by
    obtain ⟨_, _, c', _, _, _, -, -, hf', -, -, -, hown2, -⟩ := Cond.laysFinal_spec hlay
    have e1 : c' = cf := (congrArg (fun q => q.1) (Option.some.inj (hi.symm.trans hf'))).symm
    rw [hdecl] at hown2
    rw [← e1]; exact Option.some.inj (hC.hown.symm.trans hown2)
  have h6 := u_fits hfc hkC hkind (Or.inr hlay) hi ((zok z).2.1 k hk) hn9 hfit
  have fin : ∀ H' : Heap, H'[a]? = some (cell.setSlot f.slot v) → H'.size = H.size → (∀ q, q ≠ a → H'[q]? = H[q]?) → cx.W H' (locs ++ [⟨a, f.slot⟩]) (H.size - cx.s.heap.size) (SLs H cx.s.heap.size) Q (F0 cx.m (pc + 3) ls st) := by
    intro H' e1 e2 e3
    rw [hsl] at e1
    refine W_tight (kk H' _ ls (hRp.put q1 e1 e2 e3 n1 n0 n2 (hRp.1.putO (h' := h') hκ z q1 q2 q3 e1 (fun j hj => t_set q4 (hC.apart z) hk v j hj) e2 e3 n1 n3 n4 hv ho)) ?_ hlv)
    exact t_lc hl hz
  obtain ⟨ref, w, hs⟩ := lk
  · refine W.putFinK hC.hx hC.hb hC.hown (hC.hts _ w) (i := fi) (k := kf) (cf := cf) (f := f) ?_ hst hcf hin2 (by rw [q2]; exact h6) q1 q3 (by rw [hsl]; exact k2_hasslot (q4 k hk)) rfl rfl d fin
    rcases hs with rfl | hs
    · exact hi
    · exact u_same (hC.hts _ hs) _ hi
abbrev inb (i : Int32) (n : Nat) : Prop := 0 ≤ i.toInt ∧ i.toInt < (n : Int)
abbrev ix (i : Int32) : Nat := i.toNatClampNeg
theorem inb_vp {i : Int32} {n : Nat} (h : inb i n) : vp_in i n := vp_in_iff.mpr h
theorem inb_lt {i : Int32} {n : Nat} (h : inb i n) : ix i < n := Nat.not_le.mp fun q => inb_vp h (Or.inr q)
theorem x_alen (hC : Cx cx own cc nL fr lo rt h0) {κ a : Nat} (hκ : hK h a = κ) (z : zAr κ = true) (d : decode cc pc = .ok (.arraylength, 1)) (kk : X cx nL Q h (pc + 1) lv (.int (Int32.ofNat (hL h a)) :: st)) : X cx nL Q h pc lv (.ref a :: st) := by
  intro H locs ls hRp hl hlv
  obtain ⟨hz, q1⟩ := hRp.1.2.2.2.2.1 a κ hκ z
  exact W.alen hC.hx hC.hb q1 ((hC.ka z).1 _ _) (by rw [arrV_size]) rfl rfl d (kk H locs ls hRp hl hlv)
theorem x_iald (hC : Cx cx own cc nL fr lo rt h0) {a : Nat} {i : Int32} (hκ : hK h a = 100) (hi : inb i (hL h a)) (d : decode cc pc = .ok (.iaload, 1)) (kk : X cx nL Q h (pc + 1) lv (.int (hI h a (ix i)) :: st)) : X cx nL Q h pc lv (.int i :: .ref a :: st) := by
  intro H locs ls hRp hl hlv
  obtain ⟨hz, q1⟩ := hRp.1.2.2.2.2.1 a 100 hκ rfl
  exact W.iald (v := .int (hI h a (ix i))) hC.hx hC.hb q1 ((hC.ka (κ := 100) rfl).1 _ _) (fun q => by cases q) (by rw [arrV_size]; exact inb_vp hi) (arrV_read _ _ (inb_lt hi)) rfl rfl d (kk H locs ls hRp hl hlv)
theorem x_bald (hC : Cx cx own cc nL fr lo rt h0) {a : Nat} {i : Int32} (hκ : hK h a = 101) (hi : inb i (hL h a)) (d : decode cc pc = .ok (.baload, 1)) (kk : X cx nL Q h (pc + 1) lv (.int (hI h a (ix i)) :: st)) : X cx nL Q h pc lv (.int i :: .ref a :: st) := by
  intro H locs ls hRp hl hlv
  obtain ⟨hz, q1⟩ := hRp.1.2.2.2.2.1 a 101 hκ rfl
  exact W.bald (v := .int (hI h a (ix i))) hC.hx hC.hb q1 ((hC.ka (κ := 101) rfl).1 _ _) (fun q => by cases q) (by rw [arrV_size]; exact inb_vp hi) (arrV_read _ _ (inb_lt hi)) rfl rfl d (kk H locs ls hRp hl hlv)
theorem x_lald (hC : Cx cx own cc nL fr lo rt h0) {a : Nat} {i : Int32} (hκ : hK h a = 102) (hi : inb i (hL h a)) (d : decode cc pc = .ok (.laload, 1)) (kk : X cx nL Q h (pc + 1) lv (.long (hJ h a (ix i)) :: st)) : X cx nL Q h pc lv (.int i :: .ref a :: st) := by
  intro H locs ls hRp hl hlv
  obtain ⟨hz, q1⟩ := hRp.1.2.2.2.2.1 a 102 hκ rfl
  exact W.lald (v := .long (hJ h a (ix i))) hC.hx hC.hb q1 ((hC.ka (κ := 102) rfl).1 _ _) (fun q => by cases q) (by rw [arrV_size]; exact inb_vp hi) (arrV_read _ _ (inb_lt hi)) rfl rfl d (kk H locs ls hRp hl hlv)
theorem x_sald (hC : Cx cx own cc nL fr lo rt h0) {a : Nat} {i : Int32} (hκ : hK h a = 103) (hi : inb i (hL h a)) (d : decode cc pc = .ok (.saload, 1)) (kk : X cx nL Q h (pc + 1) lv (.int (hI h a (ix i)) :: st)) : X cx nL Q h pc lv (.int i :: .ref a :: st) := by
  intro H locs ls hRp hl hlv
  obtain ⟨hz, q1⟩ := hRp.1.2.2.2.2.1 a 103 hκ rfl
  exact W.sald (v := .int (hI h a (ix i))) hC.hx hC.hb q1 ((hC.ka (κ := 103) rfl).1 _ _) (fun q => by cases q) (by rw [arrV_size]; exact inb_vp hi) (arrV_read _ _ (inb_lt hi)) rfl rfl d (kk H locs ls hRp hl hlv)
theorem x_zald (hC : Cx cx own cc nL fr lo rt h0) {a : Nat} {i : Int32} (hκ : hK h a = 104) (hi : inb i (hL h a)) (d : decode cc pc = .ok (.baload, 1)) (kk : X cx nL Q h (pc + 1) lv (.int (hI h a (ix i)) :: st)) : X cx nL Q h pc lv (.int i :: .ref a :: st) := by
  intro H locs ls hRp hl hlv
  obtain ⟨hz, q1⟩ := hRp.1.2.2.2.2.1 a 104 hκ rfl
  exact W.zald (v := .int (hI h a (ix i))) hC.hx hC.hb q1 ((hC.ka (κ := 104) rfl).1 _ _) (fun q => by cases q) (by rw [arrV_size]; exact inb_vp hi) (arrV_read _ _ (inb_lt hi)) rfl rfl d (kk H locs ls hRp hl hlv)
theorem x_iast (hC : Cx cx own cc nL fr lo rt h0) {a : Nat} {i : Int32} {v : Int32} (hκ : hK h a = 100) (hi : inb i (hL h a)) (d : decode cc pc = .ok (.iastore, 1)) (kk : X cx nL Q (wI h a (ix i) v) (pc + 1) lv st) : X cx nL Q h pc lv (.int v :: .int i :: .ref a :: st) := by
  intro H locs ls hRp hl hlv
  obtain ⟨hz, q1⟩ := hRp.1.2.2.2.2.1 a 100 hκ rfl
  refine W.iast hC.hx hC.hb q1 ((hC.ka (κ := 100) rfl).1 _ _) (fun q => by cases q) (by rw [arrV_size]; exact inb_vp hi) rfl rfl d fun H1 e z oq => ?_
  have e' := e
  rw [arrV_store] at e
  refine W_tight (kk H1 _ ls (hRp.put q1 e' z oq rfl rfl rfl (hRp.1.putA (h120 := by decide) (h' := wI h a (ix i) v) (k := ix i) (v := .int v) hκ rfl e z oq rfl rfl rfl ?_ (wI_o _ _ _ _))) (t_lc hl (hz (by decide))) hlv)
  exact congrArg Value.int (up2_s _ _ _ _)
theorem x_bast (hC : Cx cx own cc nL fr lo rt h0) {a : Nat} {i : Int32} {v : Int32} (hκ : hK h a = 101) (hi : inb i (hL h a)) (d : decode cc pc = .ok (.bastore, 1)) (kk : X cx nL Q (wI h a (ix i) (v.toInt8.toInt32)) (pc + 1) lv st) : X cx nL Q h pc lv (.int v :: .int i :: .ref a :: st) := by
  intro H locs ls hRp hl hlv
  obtain ⟨hz, q1⟩ := hRp.1.2.2.2.2.1 a 101 hκ rfl
  refine W.bast hC.hx hC.hb q1 ((hC.ka (κ := 101) rfl).1 _ _) (fun q => by cases q) (by rw [arrV_size]; exact inb_vp hi) rfl rfl d fun H1 e z oq => ?_
  have e' := e
  rw [arrV_store] at e
  refine W_tight (kk H1 _ ls (hRp.put q1 e' z oq rfl rfl rfl (hRp.1.putA (h120 := by decide) (h' := wI h a (ix i) (v.toInt8.toInt32)) (k := ix i) (v := .int (v.toInt8.toInt32)) hκ rfl e z oq rfl rfl rfl ?_ (wI_o _ _ _ _))) (t_lc hl (hz (by decide))) hlv)
  exact congrArg Value.int (up2_s _ _ _ _)
theorem x_last (hC : Cx cx own cc nL fr lo rt h0) {a : Nat} {i : Int32} {v : Int64} (hκ : hK h a = 102) (hi : inb i (hL h a)) (d : decode cc pc = .ok (.lastore, 1)) (kk : X cx nL Q (wJ h a (ix i) v) (pc + 1) lv st) : X cx nL Q h pc lv (.long v :: .int i :: .ref a :: st) := by
  intro H locs ls hRp hl hlv
  obtain ⟨hz, q1⟩ := hRp.1.2.2.2.2.1 a 102 hκ rfl
  refine W.last hC.hx hC.hb q1 ((hC.ka (κ := 102) rfl).1 _ _) (fun q => by cases q) (by rw [arrV_size]; exact inb_vp hi) rfl rfl d fun H1 e z oq => ?_
  have e' := e
  rw [arrV_store] at e
  refine W_tight (kk H1 _ ls (hRp.put q1 e' z oq rfl rfl rfl (hRp.1.putA (h120 := by decide) (h' := wJ h a (ix i) v) (k := ix i) (v := .long v) hκ rfl e z oq rfl rfl rfl ?_ (wJ_o _ _ _ _))) (t_lc hl (hz (by decide))) hlv)
  exact congrArg Value.long (up2_s _ _ _ _)
theorem x_sast (hC : Cx cx own cc nL fr lo rt h0) {a : Nat} {i : Int32} {v : Int32} (hκ : hK h a = 103) (hi : inb i (hL h a)) (d : decode cc pc = .ok (.sastore, 1)) (kk : X cx nL Q (wI h a (ix i) (v.toInt16.toInt32)) (pc + 1) lv st) : X cx nL Q h pc lv (.int v :: .int i :: .ref a :: st) := by
  intro H locs ls hRp hl hlv
  obtain ⟨hz, q1⟩ := hRp.1.2.2.2.2.1 a 103 hκ rfl
  refine W.sast hC.hx hC.hb q1 ((hC.ka (κ := 103) rfl).1 _ _) (fun q => by cases q) (by rw [arrV_size]; exact inb_vp hi) rfl rfl d fun H1 e z oq => ?_
  have e' := e
  rw [arrV_store] at e
  refine W_tight (kk H1 _ ls (hRp.put q1 e' z oq rfl rfl rfl (hRp.1.putA (h120 := by decide) (h' := wI h a (ix i) (v.toInt16.toInt32)) (k := ix i) (v := .int (v.toInt16.toInt32)) hκ rfl e z oq rfl rfl rfl ?_ (wI_o _ _ _ _))) (t_lc hl (hz (by decide))) hlv)
  exact congrArg Value.int (up2_s _ _ _ _)
theorem x_zast (hC : Cx cx own cc nL fr lo rt h0) {a : Nat} {i : Int32} {v : Int32} (hκ : hK h a = 104) (hi : inb i (hL h a)) (d : decode cc pc = .ok (.bastore, 1)) (kk : X cx nL Q (wI h a (ix i) (v &&& 1)) (pc + 1) lv st) : X cx nL Q h pc lv (.int v :: .int i :: .ref a :: st) := by
  intro H locs ls hRp hl hlv
  obtain ⟨hz, q1⟩ := hRp.1.2.2.2.2.1 a 104 hκ rfl
  refine W.zast hC.hx hC.hb q1 ((hC.ka (κ := 104) rfl).1 _ _) (fun q => by cases q) (by rw [arrV_size]; exact inb_vp hi) rfl rfl d fun H1 e z oq => ?_
  have e' := e
  rw [arrV_store] at e
  refine W_tight (kk H1 _ ls (hRp.put q1 e' z oq rfl rfl rfl (hRp.1.putA (h120 := by decide) (h' := wI h a (ix i) (v &&& 1)) (k := ix i) (v := .int (v &&& 1)) hκ rfl e z oq rfl rfl rfl ?_ (wI_o _ _ _ _))) (t_lc hl (hz (by decide))) hlv)
  exact congrArg Value.int (up2_s _ _ _ _)
theorem x_aaldR (hC : Cx cx own cc nL fr lo rt h0) {κ a b : Nat} {i : Int32} (hκ : hK h a = κ) (z : zAr κ = true) (ht : (aty κ).isReference = true) (hv : fv h a (aty κ) (ix i) = rv (hR h a (ix i))) (hi : inb i (hL h a)) (hb : hR h a (ix i) = some b) (d : decode cc pc = .ok (.aaload, 1)) (kk : X cx nL Q h (pc + 1) lv (.ref b :: st)) : X cx nL Q h pc lv (.int i :: .ref a :: st) := by
  intro H locs ls hRp hl hlv
  obtain ⟨hz, q1⟩ := hRp.1.2.2.2.2.1 a κ hκ z
  exact W.aald (v := .ref b) (ty := aty κ) hC.hx hC.hb q1 ((hC.ka z).1 _ _) ht (fun q => by cases q) (by rw [arrV_size]; exact inb_vp hi) ((arrV_read _ _ (inb_lt hi)).trans (by rw [hv, hb]; rfl)) rfl rfl d (kk H locs ls hRp hl hlv)
theorem x_aaldN (hC : Cx cx own cc nL fr lo rt h0) {κ a : Nat} {i : Int32} (hκ : hK h a = κ) (z : zAr κ = true) (ht : (aty κ).isReference = true) (hv : fv h a (aty κ) (ix i) = rv (hR h a (ix i))) (hi : inb i (hL h a)) (hb : hR h a (ix i) = none) (d : decode cc pc = .ok (.aaload, 1)) (kk : X cx nL Q h (pc + 1) lv (.null :: st)) : X cx nL Q h pc lv (.int i :: .ref a :: st) := by
  intro H locs ls hRp hl hlv
  obtain ⟨hz, q1⟩ := hRp.1.2.2.2.2.1 a κ hκ z
  exact W.aald (v := .null) (ty := aty κ) hC.hx hC.hb q1 ((hC.ka z).1 _ _) ht (fun q => by cases q) (by rw [arrV_size]; exact inb_vp hi) ((arrV_read _ _ (inb_lt hi)).trans (by rw [hv, hb]; rfl)) rfl rfl d (kk H locs ls hRp hl hlv)
/-- a new cell at the end -/
theorem Rp.new {Γ : zG} {h : AH} {H H1 : Heap} (r : Rp Γ h H) {κ len sl : Nat} {cell : Cell} (hz : H1.size = H.size + 1) (hcl : H1[H.size]? = some cell) (hq : ∀ q : Nat, q < H.size → H1[q]? = H[q]?) 
    (hO1 : zIs κ = true → t_OB (hn h) (Γ.1 κ) (zC κ).2.2 (Γ.2.1 κ) H1 (fun k => fv (nw h κ len sl) (hn h) (zty κ k) k)) (hA1 : zAr κ = true → H1[hn h]? = some (arrV (Γ.2.2.1 κ) len (fun i => fv (nw h κ len sl) (hn h) (aty κ) i))) : Rp Γ (nw h κ len sl) H1 := by
  have r0 := r
  obtain ⟨r1, r2, r6, hO, hA, hSt⟩ := r
  have kOld : ∀ b, b ≠ hn h → hK (nw h κ len sl) b = hK h b := fun b hb => if_neg hb
  have kNew : hK (nw h κ len sl) (hn h) = κ := if_pos rfl
  have fOld : ∀ b ty j, b ≠ hn h → fv (nw h κ len sl) b ty j = fv h b ty j := fun b ty j hb => fv_int (if_neg hb) (if_neg hb) (if_neg hb)
  refine ⟨by show H1.size = hn h + 1; omega, by show _ ≤ hn h + 1; omega, fun q hq9 => (hq q (by omega)).trans (r6 q hq9), fun b κ' hb z' => ?_, fun b κ' hb z' => ?_, fun j C n d hj => by have := hSt.2.1; rw [show hR (nw h κ len sl) 0 j = hR h 0 j from if_neg (by omega)]; exact hSt.1 j C n d hj, hSt.2.1, fun ε hε => by
    have := hSt.2.1
    rw [show hR (nw h κ len sl) 0 0 = hR h 0 0 from if_neg (by omega)] at hε
    obtain ⟨s1, s2⟩ := hSt.2.2 ε hε
    have s3 := (r0.lt s1 (Or.inr rfl)).2
    rw [kOld ε (by omega), show hL (nw h κ len sl) ε = hL h ε from if_neg (by omega)]
    exact ⟨s1, s2⟩⟩
  · by_cases hbn : b = hn h
    · subst hbn
      have hkk : κ' = κ := hb.symm.trans kNew
      subst hkk
      exact ⟨r2, hO1 z'⟩
    · rw [kOld b hbn] at hb
      obtain ⟨g3, g4⟩ := hO b κ' hb z'
      have hlt := (r0.lt hb (Or.inl z')).2
      obtain ⟨cb, g5, g6, g7, g8⟩ := g4
      exact ⟨g3, cb, (hq b (by omega)).trans g5, g6, g7, fun j hj => (g8 j hj).trans (congrArg some (fOld b _ j hbn).symm)⟩
  · by_cases hbn : b = hn h
    · subst hbn
      have hkk : κ' = κ := hb.symm.trans kNew
      subst hkk
      refine ⟨fun _ => r2, (hA1 z').trans ?_⟩
      have : hL (nw h κ' len sl) (hn h) = len := if_pos rfl
      rw [this]
    · rw [kOld b hbn] at hb
      obtain ⟨g3, g4⟩ := hA b κ' hb z'
      have hlt := (r0.lt hb (Or.inr z')).2
      refine ⟨g3, (hq b (by omega)).trans (g4.trans ?_)⟩
      have : hL (nw h κ len sl) b = hL h b := if_neg hbn
      rw [this]
      congr 2
      funext i
      exact (fOld b _ i hbn).symm
theorem fv_new {h : AH} {κ len sl : Nat} {ty : FieldType} {k : Nat} (ht : (match ty with | .float => false | .double => false | _ => true) = true) : defaultValue ty = fv (nw h κ len sl) (hn h) ty k := by
  have e1 : hI (nw h κ len sl) (hn h) k = 0 := if_pos rfl
  have e2 : hJ (nw h κ len sl) (hn h) k = 0 := if_pos rfl
  have e3 : hR (nw h κ len sl) (hn h) k = none := if_pos rfl
  unfold fv
  rw [e1, e2, e3]
  cases ty <;> first | rfl | cases ht
theorem SLs_split {H : Heap} {a b : Nat} (h : a ≤ b) (hb : b ≤ H.size) {H0 : Heap} (hs0 : H0.size = b) (hq : ∀ q : Nat, q < b → (H[q]?).map (·.slots.size) = (H0[q]?).map (·.slots.size)) : SLs H a = SLs H0 a + SLs H b := by
  have e0 : (H.toList.map (·.slots.size)).take b = H0.toList.map (·.slots.size) := by
    apply List.ext_getElem?
    intro i
    rw [List.getElem?_take, List.getElem?_map, List.getElem?_map, Array.getElem?_toList, Array.getElem?_toList]
    by_cases hi : i < b
    · rw [if_pos hi]; exact hq i hi
    · rw [if_neg hi, Array.getElem?_eq_none (by omega)]; rfl
  unfold SLs
  rw [List.map_drop, List.map_drop, List.map_drop, ← e0, List.drop_take]
  rw [← List.sum_append]
  congr 1
  have e1 : (H.toList.map (·.slots.size)).drop b = ((H.toList.map (·.slots.size)).drop a).drop (b - a) := by rw [List.drop_drop]; congr 1; omega
  rw [e1, List.take_append_drop]
theorem W_fact {p : Program} {l : Launch} {e : Env} {R : Room} {s : State} {m : MethodId} {args : Array Value} {below : List Frame} {meth : Method} {c : Code} {H : Heap} {locs : List Loc} {cells slots : Nat} {g : JFrame} {z : Nat} (hz : z ≤ s.heap.size) (k : s.heap.size ≤ H.size → SLs H z = SLs s.heap z + SLs H s.heap.size → W p l e R s m args below meth c H locs cells slots Q g) : W p l e R s m args below meth c H locs cells slots Q g := by
  intro T hT X
  have h1 := stand_size X
  subst hT
  refine k h1 (SLs_split hz h1 rfl fun q hq => ?_) T rfl X
  obtain ⟨c', h2, -, h3, -⟩ := X.same.2.2.2.2.2 q _ (Array.getElem?_eq_getElem hq)
  have h2' : T.heap[q]? = some c' := h2
  rw [h2', Array.getElem?_eq_getElem hq]
  exact congrArg some h3
theorem x_new (hC : Cx cx own cc nL fr lo rt h0) {κ idx : Nat} (z : zIs κ = true) (w1 : Cond.classLink own idx (zC κ).1 ∈ lw_all) (w2 : Cond.instantiable (zC κ).1 (zC κ).2.2 ∈ lw_all) (w3 : Cond.initialized (zC κ).1 ∈ lw_all) (g1 : 1 ≤ hc h) (g2 : (zC κ).2.2 ≤ hs h) (hty : ∀ k, k < (zC κ).2.2 → (match zty κ k with | .float => false | .double => false | _ => true) = true) (d : decode cc pc = .ok (.new idx, 3)) (kk : X cx nL Q (nw h κ 0 (zC κ).2.2) (pc + 3) lv (.ref (hn h) :: st)) : X cx nL Q h pc lv st := by
  intro H locs ls hRp hl hlv
  have r1 := hRp.1.1
  obtain ⟨-, a1, a2, a3⟩ := id hRp
  have hKn := hC.kn z
  refine W.newcK (n := (zC κ).2.2) hC.hx hC.hb hC.hown (hC.hts _ w1) (hC.hts _ w2) (hC.hts _ w3) rfl d (by omega) (by omega) hKn.2.1 (h := hn h) r1 fun H1 kC hkC e1 z1 o1 => ?_
  rw [← r1] at e1 z1 o1
  refine W_tight (kk H1 locs ls (hRp.new (cell := blank (cx.G.1 κ) kC) z1 e1 o1 g1 g2 ?_ (hRp.1.new (cell := blank (cx.G.1 κ) kC) z1 e1 o1 (fun _ => ?_) (fun q => absurd q (z_not_both z)))) hl hlv)
  · obtain ⟨c2, k2, i1, i2, -, i4⟩ := Cond.instantiable_spec (hC.hts _ w2)
    cases hKn.2.1.symm.trans i1
    cases hkC.symm.trans i2
    show (kC.instanceTypes.map defaultValue).size ≤ _
    rw [Array.size_map]
    exact Nat.le_of_eq i4.2.2
  · rw [r1] at e1
    exact (u_born (zty κ) hC.hts (zok z).1 hKn hkC e1 (zok z).2.1).to (fun j hj => fv_new (hty j hj))
theorem x_newa (hC : Cx cx own cc nL fr lo rt h0) {κ : Nat} {n : Int32} {atype : ArrayType} (z : zAr κ = true) (ha : aty κ = newarray.typeOf atype) (w : Cond.arrayClass (newarray.typeOf atype) ∈ lw_all) (hty : (match aty κ with | .float => false | .double => false | .object _ => false | .array _ => false | _ => true) = true) (g0 : 0 ≤ n.toInt) (g3 : ix n ≤ 1000000) (g1 : 1 ≤ hc h) (g2 : ix n ≤ hs h) (d : decode cc pc = .ok (.newarray atype, 2)) (kk : X cx nL Q (nw h κ (ix n) (ix n)) (pc + 2) lv (.ref (hn h) :: st)) : X cx nL Q h pc lv (.int n :: st) := by
  intro H locs ls hRp hl hlv
  have r1 := hRp.1.1
  obtain ⟨-, a1, a2, a3⟩ := id hRp
  have hcb : componentBytes (newarray.typeOf atype) ≤ 8 := by cases atype <;> decide
  refine W.newa hC.hx hC.hb (hC.hts _ w) rfl d rfl (fun q => by rw [Int32.lt_iff_toInt_lt, Int32.toInt_zero] at q; omega) ?_ (by omega) (by have : n.toNatClampNeg ≤ hs h := g2; omega) fun cA kA comp e1 e2 e3 => ?_
  · exact Nat.le_trans (Nat.mul_le_mul g3 hcb) (by decide)
  have hcA : cA = cx.G.2.2.1 κ := by
    have q := (hC.ka z).2
    rw [ha] at q
    have q' : cx.s.vm.findClass ("[" ++ (newarray.typeOf atype).toString) = some (cx.G.2.2.1 κ) := by
      revert q; cases atype <;> exact id
    exact Option.some.inj (e1.symm.trans q')
  subst hcA
  refine W_tight ?_
  rw [r1]
  have z1 : (H.push { cls := cx.G.2.2.1 κ, slots := Array.replicate n.toNatClampNeg (defaultValue (newarray.typeOf atype)), vm := .none }).size = H.size + 1 := Array.size_push ..
  have e1 : (H.push { cls := cx.G.2.2.1 κ, slots := Array.replicate n.toNatClampNeg (defaultValue (newarray.typeOf atype)), vm := .none })[H.size]? = some { cls := cx.G.2.2.1 κ, slots := Array.replicate n.toNatClampNeg (defaultValue (newarray.typeOf atype)), vm := .none } := by rw [Array.getElem?_push, if_pos rfl]
  have o1 : ∀ q, q < H.size → (H.push { cls := cx.G.2.2.1 κ, slots := Array.replicate n.toNatClampNeg (defaultValue (newarray.typeOf atype)), vm := .none })[q]? = H[q]? := fun q hq => by rw [Array.getElem?_push, if_neg (by omega)]
  refine kk _ locs ls (hRp.new z1 e1 o1 g1 g2 (by simp) (hRp.1.new z1 e1 o1 (fun q => absurd z (z_not_both q)) (fun _ => ?_))) hl hlv
  rw [← r1, e1, arrV_new, r1, ← ha]
  congr 2
  funext i
  exact fv_new (by revert hty; cases aty κ <;> simp)
/-- getstatic of a reference -/
theorem x_gets (hC : Cx cx own cc nL fr lo rt h0) {idx j : Nat} {C n d9 : String} {v : Value} (hj : zSt j = some (C, n, d9)) (w : Cond.fieldLink own idx C n d9 ∈ lw_all) (hv : rv (hR h 0 j) = v) (d : decode cc pc = .ok (.getstatic idx, 3)) (kk : X cx nL Q h (pc + 3) lv (v :: st)) : X cx nL Q h pc lv st := by
  intro H locs ls hRp hl hlv
  have hZ := (hRp.1.2.2.2.2.2.1 j C n d9 hj).moved hC.warm.alike
  rw [hv] at hZ
  obtain ⟨cf, kf, fi, f, a, cell, h1, h2, h3, h4, h5, h6, h7, h8⟩ := hZ
  exact W.gets hC.hx hC.hb hC.hown (hC.hts _ w) h1 h2 h3 h4 (by rw [hRp.1.2.2.1 a (by omega)]; exact h5) (fun e => by rw [e] at h6; cases h6) h7 rfl d (kk H locs ls hRp hl hlv)
end XF
