/-! BASE 9: arrays of arrays -/
set_option maxRecDepth 100000
theorem z_AOA {t : FieldType} {u U : State} (hvm : u.vm.Alike U.vm) {args a' : Array Value} (h : (Cond.arrayOver (.array t)).before args u = true) : (Cond.arrayOver (.array t)).before a' U = true := by
  simp only [Cond.before, Cond.holds, Cond.value, beq_iff_eq] at h
  cases hc : u.vm.findClass (FieldType.array t).toString with
  | none => simp [hc] at h
  | some comp =>
    simp only [hc, Option.bind_some, Option.bind_eq_some_iff, Option.map_eq_some_iff] at h
    obtain ⟨c, h2, k, hk, hb⟩ := h
    obtain ⟨k', hk', he⟩ := hvm.2.2 _ _ hk
    have hi : (U.vm.classes.findIdx? fun (x : Class) => match x.kind with | .array component _ => component == comp | _ => false) = some c := by
      have e1 := va_idx_bare U.vm comp
      have e2 := va_idx_bare u.vm comp
      first | rw [hvm.bare_eq] at e1 | rw [← hvm.bare_eq] at e1
      exact e1.symm.trans (e2.trans h2)
    have f1 : U.vm.findClass (FieldType.array t).toString = some comp := by rw [hvm.findClass]; exact hc
    cases hkind : k.kind with
    | array component ty =>
      rw [hkind] at hb
      simp at hb
      have hkind' : k'.kind = .array component ty := by rw [he]; exact hkind
      have f2 : U.vm.findClass ("[" ++ (FieldType.array t).toString) = some c := by rw [hvm.findClass]; exact hb.2
      unfold Cond.before Cond.holds
      simp only [Cond.value]
      rw [f1, Option.bind_some]
      refine (congrArg (fun o : Option Nat => (o.bind (fun c => (U.vm.classes[c]?).map fun (k : Class) => match k.kind with | .array _ ty => decide (ty = FieldType.array t) && decide (U.vm.findClass ("[" ++ (FieldType.array t).toString) = some c) | _ => false) == some true)) hi).trans ?_
      simp [hk', hkind', f2, hb.1]
    | _ => rw [hkind] at hb; simp at hb
theorem arrV_congr {c : ClassId} {N : Nat} {f g : Nat → Value} (h : ∀ j, j < N → f j = g j) : arrV c N f = arrV c N g := by
  unfold arrV
  congr 1
  apply Array.ext
  · simp
  · intro i h1 h2
    simp only [Array.getElem_ofFn]
    exact h i (by simpa using h1)
theorem outerC_arr (c : ClassId) (N h0 : Nat) : ∀ i, Jvm.Free.Multi.outerC c N h0 i = arrV c N (fun j => if j < i then .ref (h0 + 1 + j) else .null)
  | 0 => by
    show ({ cls := c, slots := Array.replicate N .null, vm := .none } : Cell) = _
    rw [arrV_new]
    exact arrV_congr fun j _ => (if_neg (Nat.not_lt_zero j)).symm
  | i + 1 => by
    show (Jvm.Free.Multi.outerC c N h0 i).setSlot i (.ref (h0 + 1 + i)) = _
    rw [outerC_arr c N h0 i, arrV_store]
    refine arrV_congr fun j _ => ?_
    unfold updV
    by_cases hj : j = i
    · rw [if_pos hj, if_pos (by omega), hj]
    · rw [if_neg hj]
      dsimp only
      by_cases h2 : j < i
      · rw [if_pos h2, if_pos (by omega)]
      · rw [if_neg h2, if_neg (by omega)]
/-- n rows of k, and what holds them -/
def nm2 (h : AH) (κo κi n k : Nat) : AH := (hn h + 1 + n, hc h - (1 + n), hs h - (n + n * k), (fun b => if b = hn h then κo else if hn h < b ∧ b ≤ hn h + n then κi else hK h b), (fun b => if b = hn h then n else if hn h < b ∧ b ≤ hn h + n then k else hL h b), (fun b j => if hn h ≤ b ∧ b ≤ hn h + n then 0 else hI h b j), (fun b j => if hn h ≤ b ∧ b ≤ hn h + n then 0 else hJ h b j), (fun b j => if b = hn h then (if j < n then some (hn h + 1 + j) else none) else if hn h < b ∧ b ≤ hn h + n then none else hR h b j))
theorem Rp.multi {Γ : zG} {h : AH} {H H1 : Heap} (r : Rp Γ h H) {κo κi n k : Nat} {ty : FieldType} (hκo : zAr κo = true) (hκi : zAr κi = true) (ho1 : κo ≠ 120) (hi1 : κi ≠ 120) (ha : aty κo = .array ty) (hi : aty κi = ty) (hp : (match ty with | .float => false | .double => false | _ => true) = true)
    (hz : H1.size = H.size + 1 + n) (hout : H1[H.size]? = some (Jvm.Free.Multi.outerC (Γ.2.2.1 κo) n H.size n)) (hq : ∀ q : Nat, q < H.size → H1[q]? = H[q]?) (hinn : ∀ j, j < n → H1[H.size + 1 + j]? = some (Jvm.Free.Multi.innerC (Γ.2.2.1 κi) k (defaultValue ty))) : Rp Γ (nm2 h κo κi n k) H1 := by
  have r0 := r
  obtain ⟨r1, r2, r6, hO, hA, hSt⟩ := r
  have kOld : ∀ b, b < hn h → hK (nm2 h κo κi n k) b = hK h b := fun b hb => (if_neg (by omega)).trans (if_neg (by omega))
  have lOld : ∀ b, b < hn h → hL (nm2 h κo κi n k) b = hL h b := fun b hb => (if_neg (by omega)).trans (if_neg (by omega))
  have iOld : ∀ b j, b < hn h → hI (nm2 h κo κi n k) b j = hI h b j := fun b j hb => if_neg (by omega)
  have jOld : ∀ b j, b < hn h → hJ (nm2 h κo κi n k) b j = hJ h b j := fun b j hb => if_neg (by omega)
  have rOld : ∀ b j, b < hn h → hR (nm2 h κo κi n k) b j = hR h b j := fun b j hb => (if_neg (by omega)).trans (if_neg (by omega))
  have fOld : ∀ b ty j, b < hn h → fv (nm2 h κo κi n k) b ty j = fv h b ty j := fun b ty j hb => fv_int (iOld b j hb) (jOld b j hb) (rOld b j hb)
  have kHi : ∀ b, hn h + n < b → hK (nm2 h κo κi n k) b = hK h b := fun b hb => (if_neg (by omega)).trans (if_neg (by omega))
  have h0 := hSt.2.1
  refine ⟨by show H1.size = hn h + 1 + n; omega, by show _ ≤ hn h + 1 + n; omega, fun q hq9 => (hq q (by omega)).trans (r6 q hq9), fun b κ' hb z' => ?_, fun b κ' hb z' => ?_, fun j C n' d hj => by rw [rOld 0 j (by omega)]; exact hSt.1 j C n' d hj, hSt.2.1, fun ε hε => by
    rw [rOld 0 0 (by omega)] at hε
    obtain ⟨s1, s2⟩ := hSt.2.2 ε hε
    have s3 := (r0.lt s1 (Or.inr rfl)).2
    rw [kOld ε s3, lOld ε s3]
    exact ⟨s1, s2⟩⟩
  · by_cases b1 : b = hn h
    · have e : hK (nm2 h κo κi n k) b = κo := if_pos b1
      rw [e] at hb; subst hb
      exact absurd hκo (z_not_both z')
    · by_cases b2 : hn h < b ∧ b ≤ hn h + n
      · have e : hK (nm2 h κo κi n k) b = κi := (if_neg b1).trans (if_pos b2)
        rw [e] at hb; subst hb
        exact absurd hκi (z_not_both z')
      · have e : hK (nm2 h κo κi n k) b = hK h b := (if_neg b1).trans (if_neg b2)
        rw [e] at hb
        obtain ⟨g3, cb, g5, g6, g7, g8⟩ := hO b κ' hb z'
        have hlt := (r0.lt hb (Or.inl z')).2
        exact ⟨g3, cb, (hq b (by omega)).trans g5, g6, g7, fun j hj => (g8 j hj).trans (congrArg some (fOld b _ j hlt).symm)⟩
  · by_cases b1 : b = hn h
    · have e : hK (nm2 h κo κi n k) b = κo := if_pos b1
      rw [e] at hb; subst hb
      have e2 : hL (nm2 h κo κi n k) b = n := if_pos b1
      refine ⟨fun _ => by omega, ?_⟩
      rw [b1, ← r1, hout, r1, ← b1, e2]
      congr 1
      rw [outerC_arr]
      refine arrV_congr fun j hj => ?_
      rw [if_pos hj, ha]
      have : hR (nm2 h κo κi n k) b j = some (hn h + 1 + j) := (if_pos b1).trans (if_pos hj)
      show Value.ref (b + 1 + j) = rv (hR (nm2 h κo κi n k) b j)
      rw [this, b1]
      rfl
    · by_cases b2 : hn h < b ∧ b ≤ hn h + n
      · have e : hK (nm2 h κo κi n k) b = κi := (if_neg b1).trans (if_pos b2)
        rw [e] at hb; subst hb
        have e2 : hL (nm2 h κo κi n k) b = k := (if_neg b1).trans (if_pos b2)
        refine ⟨fun _ => by omega, ?_⟩
        have e3 := hinn (b - hn h - 1) (by omega)
        rw [show H.size + 1 + (b - hn h - 1) = b by omega] at e3
        rw [e3, e2]
        congr 1
        show ({ cls := Γ.2.2.1 κi, slots := Array.replicate k (defaultValue ty), vm := .none } : Cell) = _
        rw [arrV_new, hi]
        congr 1
        funext i
        have x1 : hI (nm2 h κo κi n k) b i = 0 := if_pos (by omega)
        have x2 : hJ (nm2 h κo κi n k) b i = 0 := if_pos (by omega)
        have x3 : hR (nm2 h κo κi n k) b i = none := (if_neg b1).trans (if_pos b2)
        unfold fv
        rw [x1, x2, x3]
        cases ty <;> first | rfl | cases hp
      · have e : hK (nm2 h κo κi n k) b = hK h b := (if_neg b1).trans (if_neg b2)
        rw [e] at hb
        obtain ⟨g3, g4⟩ := hA b κ' hb z'
        have hlt := (r0.lt hb (Or.inr z')).2
        refine ⟨g3, (hq b (by omega)).trans (g4.trans ?_)⟩
        rw [lOld b hlt]
        congr 2
        funext i
        exact (fOld b _ i hlt).symm
section XM
variable {cx : zX} {own : String} {cc : ByteArray} {nL fr lo : Nat} {rt : Option FieldType} {h0 : AH} {Q : State → Prop} {h h' : AH} {pc : Nat} {lv lv' : List (Nat × Value)} {st : List Value}
theorem x_multi (hC : Cx cx own cc nL fr lo rt h0) {κo κi idx : Nat} {n k : Int32} {ty : FieldType} {C : String} (e : h' = nm2 h κo κi (ix n) (ix k)) (hκo : zAr κo = true) (hκi : zAr κi = true) (ho1 : κo ≠ 120) (hi1 : κi ≠ 120) (ha : aty κo = .array ty) (hi : aty κi = ty) (hp : (match ty with | .int => true | .byte => true | .long => true | _ => false) = true) (hCs : "[" ++ (FieldType.array ty).toString = C)
    (w1 : Cond.classLink own idx C ∈ lw_all) (w2 : Cond.arrayOver (.array ty) ∈ lw_tbl) (w3 : Cond.arrayClass ty ∈ lw_all) (g : 0 ≤ n.toInt ∧ 0 ≤ k.toInt ∧ ix n ≤ 1000000 ∧ ix k ≤ 1000000 ∧ 1 + ix n ≤ hc h ∧ ix n + ix n * ix k ≤ hs h) (d : decode cc pc = .ok (.multianewarray idx 2, 4)) (kk : X cx nL Q h' (pc + 4) lv (.ref (hn h) :: st)) : X cx nL Q h pc lv (.int k :: .int n :: st) := by
  subst e
  obtain ⟨g1, g2, g3, g4, g5, g6⟩ := g
  intro H locs ls hRp hl hlv T hT XS
  have r1 := hRp.1.1
  obtain ⟨rp, a1, a2, a3⟩ := id hRp
  have hcb : componentBytes ty ≤ 8 := by revert hp; cases ty <;> intro hp <;> first | decide | cases hp
  have hn0 : ¬ n < 0 := fun q => by rw [Int32.lt_iff_toInt_lt, Int32.toInt_zero] at q; omega
  have hk0 : ¬ k < 0 := fun q => by rw [Int32.lt_iff_toInt_lt, Int32.toInt_zero] at q; omega
  obtain ⟨vm₁, cA, comp, hW, f1, f2, -, -, X', st9⟩ := XS.multianewarray2F hC.hx (ty := ty) hC.hown (by rw [hCs]; exact hC.hts _ w1) (z_AOA hC.warm.alike (hC.g0.1 _ w2)) (hC.hts _ w3) (g := F0 cx.m pc ls (.int k :: .int n :: st)) rfl (by rw [hC.hb]; exact d) (n := n) (k := k) (rest := st) rfl hn0 hk0 (Nat.le_trans (Nat.mul_le_mul g3 (Nat.le_refl 4)) (by decide)) (Nat.le_trans (Nat.mul_le_mul g4 hcb) (by decide)) (Nat.le_trans g4 (by decide)) (by revert hp; cases ty <;> intro hp <;> first | rfl | cases hp) (by revert hp; cases ty <;> intro hp <;> first | rfl | cases hp) (by show _ + (1 + ix n) ≤ _; omega) (by show _ + (ix n + ix n * ix k) ≤ _; omega)
  have hcA : cA = cx.G.2.2.1 κo := by
    have q := (hC.ka hκo).2
    rw [ha] at q
    exact Option.some.inj (f1.symm.trans q)
  have hcB : comp = cx.G.2.2.1 κi := by
    have q := (hC.ka hκi).2
    rw [hi] at q
    have q' : cx.s.vm.findClass (FieldType.array ty).toString = some (cx.G.2.2.1 κi) := by revert q hp; cases ty <;> intro hp q <;> first | exact q | cases hp
    exact Option.some.inj (f2.symm.trans q')
  subst hcA
  subst hcB
  have hh : (T.setVm vm₁).heap = H := hT
  obtain ⟨z1, z2, -⟩ := Jvm.Free.Multi.fill_facts (T.setVm vm₁) (cx.G.2.2.1 κo) (cx.G.2.2.1 κi) (ix n) (ix k) (defaultValue ty) (ix n)
  have z3 := fun (q : Nat) (hq : q < (T.setVm vm₁).heap.size) => Jvm.Free.Multi.fill_old (T.setVm vm₁) (cx.G.2.2.1 κo) (cx.G.2.2.1 κi) (ix n) (ix k) (defaultValue ty) hq (ix n)
  have z4 := Jvm.Free.Multi.fill_inner (T.setVm vm₁) (cx.G.2.2.1 κo) (cx.G.2.2.1 κi) (ix n) (ix k) (defaultValue ty) (ix n)
  have hsl : SLs (Jvm.Free.Multi.fill (T.setVm vm₁) (cx.G.2.2.1 κo) (cx.G.2.2.1 κi) (ix n) (ix k) (defaultValue ty) (ix n)).heap cx.s.heap.size ≤ SLs H cx.s.heap.size + ix n + ix n * ix k := X'.same.2.2.2.2.1
  rw [hh] at z1 z2 z3 z4
  have rp' : Rp cx.G (nm2 h κo κi (ix n) (ix k)) (Jvm.Free.Multi.fill (T.setVm vm₁) (cx.G.2.2.1 κo) (cx.G.2.2.1 κi) (ix n) (ix k) (defaultValue ty) (ix n)).heap := rp.multi hκo hκi ho1 hi1 ha hi (by revert hp; cases ty <;> intro hp <;> first | rfl | cases hp) z1 z2 z3 z4
  have rq : Rq cx (nm2 h κo κi (ix n) (ix k)) (Jvm.Free.Multi.fill (T.setVm vm₁) (cx.G.2.2.1 κo) (cx.G.2.2.1 κi) (ix n) (ix k) (defaultValue ty) (ix n)).heap := ⟨rp', by show _ ≤ hn h + 1 + ix n; omega, by show hn h + 1 + ix n + (hc h - (1 + ix n)) ≤ _; omega, by show _ + (hs h - (ix n + ix n * ix k)) ≤ _; omega⟩
  have kk9 := kk _ locs ls rq hl hlv
  obtain ⟨t, b1, b2⟩ := W_tight kk9 _ rfl X'
  refine ⟨t, st9 t ?_, b2⟩
  have e9 : T.heap.size = hn h := by rw [hT]; exact r1
  rw [e9]
  exact b1
end XM
