/-! arrays told by their class; throws by the machine -/
set_option maxRecDepth 100000
theorem inb_out {i : Int32} {n : Nat} (h : ¬ inb i n) : i < 0 ∨ n ≤ i.toInt.toNat := Classical.byContradiction fun q => h (by
  have q1 : ¬ i < 0 := fun e => q (Or.inl e)
  have q2 : ¬ n ≤ i.toInt.toNat := fun e => q (Or.inr e)
  rw [Int32.lt_iff_toInt_lt, Int32.toInt_zero] at q1
  unfold inb
  omega)
section XY
variable {cx : zX} {own : String} {cc : ByteArray} {nL fr lo : Nat} {rt : Option FieldType} {h0 : AH} {Q : State → Prop} {h : AH} {pc : Nat} {lv : List (Nat × Value)} {st : List Value}
theorem x_instN (hC : Cx cx own cc nL fr lo rt h0) {idx : Nat} (d : decode cc pc = .ok (.instanceof idx, 3)) (kk : X cx nL Q h (pc + 3) lv (.int 0 :: st)) : X cx nL Q h pc lv (.null :: st) := fun H locs ls a b c => lv_instN hC.hx hC.hb d (kk H locs ls a b c)
theorem x_castN (hC : Cx cx own cc nL fr lo rt h0) {idx : Nat} (d : decode cc pc = .ok (.checkcast idx, 3)) (kk : X cx nL Q h (pc + 3) lv (.null :: st)) : X cx nL Q h pc lv (.null :: st) := fun H locs ls a b c => lv_castN hC.hx hC.hb d (kk H locs ls a b c)
theorem x_instA (hC : Cx cx own cc nL fr lo rt h0) {κ a idx : Nat} {nm : String} (hκ : hK h a = κ) (z : zIs κ = true ∨ zAr κ = true) (hnm : zNm κ = nm) (w1 : Cond.classLink own idx nm ∈ lw_all) (d : decode cc pc = .ok (.instanceof idx, 3)) (kk : X cx nL Q h (pc + 3) lv (.int 1 :: st)) : X cx nL Q h pc lv (.ref a :: st) := by
  subst hnm
  intro H locs ls hRp hl hlv T hT XS
  obtain ⟨cell, k, c1, c2, c3, -⟩ := x_cls hC hRp hκ z
  obtain ⟨vm', X', st9⟩ := XS.instanceofYes hC.hx hC.hown (hC.hts _ w1) (by rw [hT]; exact c1) (by rw [c2]; rfl) c3 (va_asg _ _) (g := F0 cx.m pc ls (.ref a :: st)) rfl rfl (by rw [hC.hb]; exact d)
  obtain ⟨t, a1, b1⟩ := kk H locs ls hRp hl hlv (T.setVm vm') hT X'
  exact ⟨t, st9 t a1, b1⟩
theorem x_castZ (hC : Cx cx own cc nL fr lo rt h0) {κ a idx : Nat} {nm : String} (hκ : hK h a = κ) (z : zIs κ = true ∨ zAr κ = true) (hnm : zNm κ = nm) (w1 : Cond.classLink own idx nm ∈ lw_all) (d : decode cc pc = .ok (.checkcast idx, 3)) (kk : X cx nL Q h (pc + 3) lv (.ref a :: st)) : X cx nL Q h pc lv (.ref a :: st) := by
  subst hnm
  intro H locs ls hRp hl hlv T hT XS
  obtain ⟨cell, k, c1, c2, c3, -⟩ := x_cls hC hRp hκ z
  obtain ⟨vm', X', st9⟩ := XS.checkcastYes hC.hx hC.hown (hC.hts _ w1) (by rw [hT]; exact c1) (by rw [c2]; rfl) c3 (va_asg _ _) (g := F0 cx.m pc ls (.ref a :: st)) rfl rfl (by rw [hC.hb]; exact d)
  obtain ⟨t, a1, b1⟩ := kk H locs ls hRp hl hlv (T.setVm vm') hT X'
  exact ⟨t, st9 t a1, b1⟩
/-- a word of the narrow condition: no cast -/
theorem Cx.nc (hC : Cx cx own cc nL fr lo rt h0) {A B : String} (w : Cond.not (.castable A B) ∈ flatC (Jvm.Cond.and given_1 narrow_1)) : va_Nc A B cx.s := va_Nc.moved (State.WarmedH.alike hC.warm) (va_Nc.of (flat_of_before _ hC.g0.2.2.2.1 _ w))
theorem x_instO (hC : Cx cx own cc nL fr lo rt h0) {κ a idx : Nat} {nm : String} (hκ : hK h a = κ) (z : zIs κ = true ∨ zAr κ = true) (w : va_Nc (zNm κ) nm cx.s) (w1 : Cond.classLink own idx nm ∈ lw_all) (d : decode cc pc = .ok (.instanceof idx, 3)) (kk : X cx nL Q h (pc + 3) lv (.int 0 :: st)) : X cx nL Q h pc lv (.ref a :: st) := by
  intro H locs ls hRp hl hlv
  obtain ⟨cell, k, c1, c2, c3, -⟩ := x_cls hC hRp hκ z
  exact va_instNo hC.hx hC.hb hC.hown (hC.hts _ w1) w ⟨cell, c1, by rw [c2]; rfl, c3⟩ d (kk H locs ls hRp hl hlv)
theorem nc_100_101 (hC : Cx cx own cc nL fr lo rt h0) : va_Nc (zNm 100) "[B" cx.s := hC.nc (A := "[I") (by decide +kernel)
theorem nc_100_102 (hC : Cx cx own cc nL fr lo rt h0) : va_Nc (zNm 100) "[J" cx.s := hC.nc (A := "[I") (by decide +kernel)
theorem nc_100_103 (hC : Cx cx own cc nL fr lo rt h0) : va_Nc (zNm 100) "[S" cx.s := hC.nc (A := "[I") (by decide +kernel)
theorem nc_101_100 (hC : Cx cx own cc nL fr lo rt h0) : va_Nc (zNm 101) "[I" cx.s := hC.nc (A := "[B") (by decide +kernel)
theorem nc_101_102 (hC : Cx cx own cc nL fr lo rt h0) : va_Nc (zNm 101) "[J" cx.s := hC.nc (A := "[B") (by decide +kernel)
theorem nc_101_103 (hC : Cx cx own cc nL fr lo rt h0) : va_Nc (zNm 101) "[S" cx.s := hC.nc (A := "[B") (by decide +kernel)
theorem nc_102_100 (hC : Cx cx own cc nL fr lo rt h0) : va_Nc (zNm 102) "[I" cx.s := hC.nc (A := "[J") (by decide +kernel)
theorem nc_102_101 (hC : Cx cx own cc nL fr lo rt h0) : va_Nc (zNm 102) "[B" cx.s := hC.nc (A := "[J") (by decide +kernel)
theorem nc_102_103 (hC : Cx cx own cc nL fr lo rt h0) : va_Nc (zNm 102) "[S" cx.s := hC.nc (A := "[J") (by decide +kernel)
theorem nc_103_100 (hC : Cx cx own cc nL fr lo rt h0) : va_Nc (zNm 103) "[I" cx.s := hC.nc (A := "[S") (by decide +kernel)
theorem nc_103_101 (hC : Cx cx own cc nL fr lo rt h0) : va_Nc (zNm 103) "[B" cx.s := hC.nc (A := "[S") (by decide +kernel)
theorem nc_103_102 (hC : Cx cx own cc nL fr lo rt h0) : va_Nc (zNm 103) "[J" cx.s := hC.nc (A := "[S") (by decide +kernel)
theorem xo_100 (hC : Cx cx own cc nL fr lo rt h0) {a idx : Nat} (g : hK h a = 101 ∨ hK h a = 102 ∨ hK h a = 103) (w1 : Cond.classLink own idx "[I" ∈ lw_all) (d : decode cc pc = .ok (.instanceof idx, 3)) (kk : X cx nL Q h (pc + 3) lv (.int 0 :: st)) : X cx nL Q h pc lv (.ref a :: st) := by
  rcases g with g | g | g
  · exact x_instO hC g (Or.inr rfl) (nc_101_100 hC) w1 d kk
  · exact x_instO hC g (Or.inr rfl) (nc_102_100 hC) w1 d kk
  · exact x_instO hC g (Or.inr rfl) (nc_103_100 hC) w1 d kk
theorem xo_101 (hC : Cx cx own cc nL fr lo rt h0) {a idx : Nat} (g : hK h a = 100 ∨ hK h a = 102 ∨ hK h a = 103) (w1 : Cond.classLink own idx "[B" ∈ lw_all) (d : decode cc pc = .ok (.instanceof idx, 3)) (kk : X cx nL Q h (pc + 3) lv (.int 0 :: st)) : X cx nL Q h pc lv (.ref a :: st) := by
  rcases g with g | g | g
  · exact x_instO hC g (Or.inr rfl) (nc_100_101 hC) w1 d kk
  · exact x_instO hC g (Or.inr rfl) (nc_102_101 hC) w1 d kk
  · exact x_instO hC g (Or.inr rfl) (nc_103_101 hC) w1 d kk
theorem xo_102 (hC : Cx cx own cc nL fr lo rt h0) {a idx : Nat} (g : hK h a = 100 ∨ hK h a = 101 ∨ hK h a = 103) (w1 : Cond.classLink own idx "[J" ∈ lw_all) (d : decode cc pc = .ok (.instanceof idx, 3)) (kk : X cx nL Q h (pc + 3) lv (.int 0 :: st)) : X cx nL Q h pc lv (.ref a :: st) := by
  rcases g with g | g | g
  · exact x_instO hC g (Or.inr rfl) (nc_100_102 hC) w1 d kk
  · exact x_instO hC g (Or.inr rfl) (nc_101_102 hC) w1 d kk
  · exact x_instO hC g (Or.inr rfl) (nc_103_102 hC) w1 d kk
theorem xo_103 (hC : Cx cx own cc nL fr lo rt h0) {a idx : Nat} (g : hK h a = 100 ∨ hK h a = 101 ∨ hK h a = 102) (w1 : Cond.classLink own idx "[S" ∈ lw_all) (d : decode cc pc = .ok (.instanceof idx, 3)) (kk : X cx nL Q h (pc + 3) lv (.int 0 :: st)) : X cx nL Q h pc lv (.ref a :: st) := by
  rcases g with g | g | g
  · exact x_instO hC g (Or.inr rfl) (nc_100_103 hC) w1 d kk
  · exact x_instO hC g (Or.inr rfl) (nc_101_103 hC) w1 d kk
  · exact x_instO hC g (Or.inr rfl) (nc_102_103 hC) w1 d kk
theorem xn_arraylength (hC : Cx cx own cc nL fr lo rt h0) (g : 1 ≤ hc h ∧ 8 ≤ hs h) (hRf : 7 < fr) (hRl : (st.map fun v => v.category).sum + 10240 ≤ lo) (d : decode cc pc = .ok (.arraylength, 1)) (kk : XT cx nL Q (nz h 1 8) pc lv "java/lang/NullPointerException" (hn h)) : X cx nL Q h pc lv (.null :: st) := fun H locs ls a b c => vx_arraylengthN hC.hx hC.hb d (x_npe hC (hat_7 hC) hatg_7 g hRf hRl kk a b c)
theorem xn_iaload (hC : Cx cx own cc nL fr lo rt h0) {i : Int32} (g : 1 ≤ hc h ∧ 8 ≤ hs h) (hRf : 7 < fr) (hRl : (st.map fun v => v.category).sum + 10240 ≤ lo) (d : decode cc pc = .ok (.iaload, 1)) (kk : XT cx nL Q (nz h 1 8) pc lv "java/lang/NullPointerException" (hn h)) : X cx nL Q h pc lv (.int i :: .null :: st) := fun H locs ls a b c => vx_ialoadN hC.hx hC.hb d (x_npe hC (hat_7 hC) hatg_7 g hRf hRl kk a b c)
theorem xn_baload (hC : Cx cx own cc nL fr lo rt h0) {i : Int32} (g : 1 ≤ hc h ∧ 8 ≤ hs h) (hRf : 7 < fr) (hRl : (st.map fun v => v.category).sum + 10240 ≤ lo) (d : decode cc pc = .ok (.baload, 1)) (kk : XT cx nL Q (nz h 1 8) pc lv "java/lang/NullPointerException" (hn h)) : X cx nL Q h pc lv (.int i :: .null :: st) := fun H locs ls a b c => vx_baloadN hC.hx hC.hb d (x_npe hC (hat_7 hC) hatg_7 g hRf hRl kk a b c)
theorem xn_saload (hC : Cx cx own cc nL fr lo rt h0) {i : Int32} (g : 1 ≤ hc h ∧ 8 ≤ hs h) (hRf : 7 < fr) (hRl : (st.map fun v => v.category).sum + 10240 ≤ lo) (d : decode cc pc = .ok (.saload, 1)) (kk : XT cx nL Q (nz h 1 8) pc lv "java/lang/NullPointerException" (hn h)) : X cx nL Q h pc lv (.int i :: .null :: st) := fun H locs ls a b c => vx_saloadN hC.hx hC.hb d (x_npe hC (hat_7 hC) hatg_7 g hRf hRl kk a b c)
theorem xn_laload (hC : Cx cx own cc nL fr lo rt h0) {i : Int32} (g : 1 ≤ hc h ∧ 8 ≤ hs h) (hRf : 7 < fr) (hRl : (st.map fun v => v.category).sum + 10240 ≤ lo) (d : decode cc pc = .ok (.laload, 1)) (kk : XT cx nL Q (nz h 1 8) pc lv "java/lang/NullPointerException" (hn h)) : X cx nL Q h pc lv (.int i :: .null :: st) := fun H locs ls a b c => vx_laloadN hC.hx hC.hb d (x_npe hC (hat_7 hC) hatg_7 g hRf hRl kk a b c)
theorem xn_iastore (hC : Cx cx own cc nL fr lo rt h0) {i : Int32} {x : Int32} (g : 1 ≤ hc h ∧ 8 ≤ hs h) (hRf : 7 < fr) (hRl : (st.map fun v => v.category).sum + 10240 ≤ lo) (d : decode cc pc = .ok (.iastore, 1)) (kk : XT cx nL Q (nz h 1 8) pc lv "java/lang/NullPointerException" (hn h)) : X cx nL Q h pc lv (.int x :: .int i :: .null :: st) := fun H locs ls a b c => vx_iastoreN hC.hx hC.hb d (x_npe hC (hat_7 hC) hatg_7 g hRf hRl kk a b c)
theorem xn_bastore (hC : Cx cx own cc nL fr lo rt h0) {i : Int32} {x : Int32} (g : 1 ≤ hc h ∧ 8 ≤ hs h) (hRf : 7 < fr) (hRl : (st.map fun v => v.category).sum + 10240 ≤ lo) (d : decode cc pc = .ok (.bastore, 1)) (kk : XT cx nL Q (nz h 1 8) pc lv "java/lang/NullPointerException" (hn h)) : X cx nL Q h pc lv (.int x :: .int i :: .null :: st) := fun H locs ls a b c => vx_bastoreN hC.hx hC.hb d (x_npe hC (hat_7 hC) hatg_7 g hRf hRl kk a b c)
theorem xn_sastore (hC : Cx cx own cc nL fr lo rt h0) {i : Int32} {x : Int32} (g : 1 ≤ hc h ∧ 8 ≤ hs h) (hRf : 7 < fr) (hRl : (st.map fun v => v.category).sum + 10240 ≤ lo) (d : decode cc pc = .ok (.sastore, 1)) (kk : XT cx nL Q (nz h 1 8) pc lv "java/lang/NullPointerException" (hn h)) : X cx nL Q h pc lv (.int x :: .int i :: .null :: st) := fun H locs ls a b c => vx_sastoreN hC.hx hC.hb d (x_npe hC (hat_7 hC) hatg_7 g hRf hRl kk a b c)
theorem xn_lastore (hC : Cx cx own cc nL fr lo rt h0) {i : Int32} {x : Int64} (g : 1 ≤ hc h ∧ 8 ≤ hs h) (hRf : 7 < fr) (hRl : (st.map fun v => v.category).sum + 10240 ≤ lo) (d : decode cc pc = .ok (.lastore, 1)) (kk : XT cx nL Q (nz h 1 8) pc lv "java/lang/NullPointerException" (hn h)) : X cx nL Q h pc lv (.long x :: .int i :: .null :: st) := fun H locs ls a b c => vx_lastoreN hC.hx hC.hb d (x_npe hC (hat_7 hC) hatg_7 g hRf hRl kk a b c)
theorem xz_iaload (hC : Cx cx own cc nL fr lo rt h0) {a : Nat} {i : Int32} (hκ : hK h a = 100) (hout : ¬ inb i (hL h a)) (hlen : hL h a < 2 ^ 31) (g : 3 ≤ hc h ∧ 222 ≤ hs h) (hRf : 7 < fr) (hRl : (st.map fun v => v.category).sum + 10240 ≤ lo) (d : decode cc pc = .ok (.iaload, 1)) (kk : XT cx nL Q (nz h 3 222) pc lv "java/lang/ArrayIndexOutOfBoundsException" (hn h + 2)) : X cx nL Q h pc lv (.int i :: .ref a :: st) := by
  intro H locs ls hRp hl hlv T hT XS
  obtain ⟨hz, q1⟩ := hRp.1.2.2.2.2.1 a 100 hκ rfl
  have h1 := XS.ialoadOut hC.hx (by rw [hT]; exact q1) ((hC.ka (κ := 100) rfl).1 _ _) (j := i) (by show (i < 0 ∨ (arrV _ _ _).slots.size ≤ _); rw [arrV_size]; exact inb_out hout) (g := F0 cx.m pc ls (.int i :: .ref a :: st)) rfl (rest := st) rfl (by rw [hC.hb]; exact d)
  simp only [arrV_size] at h1
  obtain ⟨t, s1, q⟩ := x_vm (nb := 212) hC (by decide +kernel) (by decide +kernel) (by decide +kernel) (by decide +kernel) (index_text_modelled i (hL h a)) (index_text_bytes i hlen) (by decide) (by decide) (hat_6 hC) hatg_6 g hRf hRl kk hRp hl hlv T hT XS
  exact ⟨t, h1 t s1, q⟩
theorem xz_baload (hC : Cx cx own cc nL fr lo rt h0) {a : Nat} {i : Int32} (hκ : hK h a = 101) (hout : ¬ inb i (hL h a)) (hlen : hL h a < 2 ^ 31) (g : 3 ≤ hc h ∧ 222 ≤ hs h) (hRf : 7 < fr) (hRl : (st.map fun v => v.category).sum + 10240 ≤ lo) (d : decode cc pc = .ok (.baload, 1)) (kk : XT cx nL Q (nz h 3 222) pc lv "java/lang/ArrayIndexOutOfBoundsException" (hn h + 2)) : X cx nL Q h pc lv (.int i :: .ref a :: st) := by
  intro H locs ls hRp hl hlv T hT XS
  obtain ⟨hz, q1⟩ := hRp.1.2.2.2.2.1 a 101 hκ rfl
  have h1 := XS.baloadOut hC.hx (by rw [hT]; exact q1) ((hC.ka (κ := 101) rfl).1 _ _) (j := i) (by show (i < 0 ∨ (arrV _ _ _).slots.size ≤ _); rw [arrV_size]; exact inb_out hout) (g := F0 cx.m pc ls (.int i :: .ref a :: st)) rfl (rest := st) rfl (by rw [hC.hb]; exact d)
  simp only [arrV_size] at h1
  obtain ⟨t, s1, q⟩ := x_vm (nb := 212) hC (by decide +kernel) (by decide +kernel) (by decide +kernel) (by decide +kernel) (index_text_modelled i (hL h a)) (index_text_bytes i hlen) (by decide) (by decide) (hat_6 hC) hatg_6 g hRf hRl kk hRp hl hlv T hT XS
  exact ⟨t, h1 t s1, q⟩
theorem xz_saload (hC : Cx cx own cc nL fr lo rt h0) {a : Nat} {i : Int32} (hκ : hK h a = 103) (hout : ¬ inb i (hL h a)) (hlen : hL h a < 2 ^ 31) (g : 3 ≤ hc h ∧ 222 ≤ hs h) (hRf : 7 < fr) (hRl : (st.map fun v => v.category).sum + 10240 ≤ lo) (d : decode cc pc = .ok (.saload, 1)) (kk : XT cx nL Q (nz h 3 222) pc lv "java/lang/ArrayIndexOutOfBoundsException" (hn h + 2)) : X cx nL Q h pc lv (.int i :: .ref a :: st) := by
  intro H locs ls hRp hl hlv T hT XS
  obtain ⟨hz, q1⟩ := hRp.1.2.2.2.2.1 a 103 hκ rfl
  have h1 := XS.saloadOut hC.hx (by rw [hT]; exact q1) ((hC.ka (κ := 103) rfl).1 _ _) (j := i) (by show (i < 0 ∨ (arrV _ _ _).slots.size ≤ _); rw [arrV_size]; exact inb_out hout) (g := F0 cx.m pc ls (.int i :: .ref a :: st)) rfl (rest := st) rfl (by rw [hC.hb]; exact d)
  simp only [arrV_size] at h1
  obtain ⟨t, s1, q⟩ := x_vm (nb := 212) hC (by decide +kernel) (by decide +kernel) (by decide +kernel) (by decide +kernel) (index_text_modelled i (hL h a)) (index_text_bytes i hlen) (by decide) (by decide) (hat_6 hC) hatg_6 g hRf hRl kk hRp hl hlv T hT XS
  exact ⟨t, h1 t s1, q⟩
theorem xz_laload (hC : Cx cx own cc nL fr lo rt h0) {a : Nat} {i : Int32} (hκ : hK h a = 102) (hout : ¬ inb i (hL h a)) (hlen : hL h a < 2 ^ 31) (g : 3 ≤ hc h ∧ 222 ≤ hs h) (hRf : 7 < fr) (hRl : (st.map fun v => v.category).sum + 10240 ≤ lo) (d : decode cc pc = .ok (.laload, 1)) (kk : XT cx nL Q (nz h 3 222) pc lv "java/lang/ArrayIndexOutOfBoundsException" (hn h + 2)) : X cx nL Q h pc lv (.int i :: .ref a :: st) := by
  intro H locs ls hRp hl hlv T hT XS
  obtain ⟨hz, q1⟩ := hRp.1.2.2.2.2.1 a 102 hκ rfl
  have h1 := XS.laloadOut hC.hx (by rw [hT]; exact q1) ((hC.ka (κ := 102) rfl).1 _ _) (j := i) (by show (i < 0 ∨ (arrV _ _ _).slots.size ≤ _); rw [arrV_size]; exact inb_out hout) (g := F0 cx.m pc ls (.int i :: .ref a :: st)) rfl (rest := st) rfl (by rw [hC.hb]; exact d)
  simp only [arrV_size] at h1
  obtain ⟨t, s1, q⟩ := x_vm (nb := 212) hC (by decide +kernel) (by decide +kernel) (by decide +kernel) (by decide +kernel) (index_text_modelled i (hL h a)) (index_text_bytes i hlen) (by decide) (by decide) (hat_6 hC) hatg_6 g hRf hRl kk hRp hl hlv T hT XS
  exact ⟨t, h1 t s1, q⟩
theorem xz_iastore (hC : Cx cx own cc nL fr lo rt h0) {a : Nat} {i : Int32} {x : Int32} (hκ : hK h a = 100) (hout : ¬ inb i (hL h a)) (hlen : hL h a < 2 ^ 31) (g : 3 ≤ hc h ∧ 222 ≤ hs h) (hRf : 7 < fr) (hRl : (st.map fun v => v.category).sum + 10240 ≤ lo) (d : decode cc pc = .ok (.iastore, 1)) (kk : XT cx nL Q (nz h 3 222) pc lv "java/lang/ArrayIndexOutOfBoundsException" (hn h + 2)) : X cx nL Q h pc lv (.int x :: .int i :: .ref a :: st) := by
  intro H locs ls hRp hl hlv T hT XS
  obtain ⟨hz, q1⟩ := hRp.1.2.2.2.2.1 a 100 hκ rfl
  have h1 := XS.iastoreOut hC.hx (by rw [hT]; exact q1) ((hC.ka (κ := 100) rfl).1 _ _) (j := i) (by show (i < 0 ∨ (arrV _ _ _).slots.size ≤ _); rw [arrV_size]; exact inb_out hout) (g := F0 cx.m pc ls (.int x :: .int i :: .ref a :: st)) rfl (rest := st) rfl (by rw [hC.hb]; exact d)
  simp only [arrV_size] at h1
  obtain ⟨t, s1, q⟩ := x_vm (nb := 212) hC (by decide +kernel) (by decide +kernel) (by decide +kernel) (by decide +kernel) (index_text_modelled i (hL h a)) (index_text_bytes i hlen) (by decide) (by decide) (hat_6 hC) hatg_6 g hRf hRl kk hRp hl hlv T hT XS
  exact ⟨t, h1 t s1, q⟩
theorem xz_bastore (hC : Cx cx own cc nL fr lo rt h0) {a : Nat} {i : Int32} {x : Int32} (hκ : hK h a = 101) (hout : ¬ inb i (hL h a)) (hlen : hL h a < 2 ^ 31) (g : 3 ≤ hc h ∧ 222 ≤ hs h) (hRf : 7 < fr) (hRl : (st.map fun v => v.category).sum + 10240 ≤ lo) (d : decode cc pc = .ok (.bastore, 1)) (kk : XT cx nL Q (nz h 3 222) pc lv "java/lang/ArrayIndexOutOfBoundsException" (hn h + 2)) : X cx nL Q h pc lv (.int x :: .int i :: .ref a :: st) := by
  intro H locs ls hRp hl hlv T hT XS
  obtain ⟨hz, q1⟩ := hRp.1.2.2.2.2.1 a 101 hκ rfl
  have h1 := XS.bastoreOut hC.hx (by rw [hT]; exact q1) ((hC.ka (κ := 101) rfl).1 _ _) (j := i) (by show (i < 0 ∨ (arrV _ _ _).slots.size ≤ _); rw [arrV_size]; exact inb_out hout) (g := F0 cx.m pc ls (.int x :: .int i :: .ref a :: st)) rfl (rest := st) rfl (by rw [hC.hb]; exact d)
  simp only [arrV_size] at h1
  obtain ⟨t, s1, q⟩ := x_vm (nb := 212) hC (by decide +kernel) (by decide +kernel) (by decide +kernel) (by decide +kernel) (index_text_modelled i (hL h a)) (index_text_bytes i hlen) (by decide) (by decide) (hat_6 hC) hatg_6 g hRf hRl kk hRp hl hlv T hT XS
  exact ⟨t, h1 t s1, q⟩
theorem xz_sastore (hC : Cx cx own cc nL fr lo rt h0) {a : Nat} {i : Int32} {x : Int32} (hκ : hK h a = 103) (hout : ¬ inb i (hL h a)) (hlen : hL h a < 2 ^ 31) (g : 3 ≤ hc h ∧ 222 ≤ hs h) (hRf : 7 < fr) (hRl : (st.map fun v => v.category).sum + 10240 ≤ lo) (d : decode cc pc = .ok (.sastore, 1)) (kk : XT cx nL Q (nz h 3 222) pc lv "java/lang/ArrayIndexOutOfBoundsException" (hn h + 2)) : X cx nL Q h pc lv (.int x :: .int i :: .ref a :: st) := by
  intro H locs ls hRp hl hlv T hT XS
  obtain ⟨hz, q1⟩ := hRp.1.2.2.2.2.1 a 103 hκ rfl
  have h1 := XS.sastoreOut hC.hx (by rw [hT]; exact q1) ((hC.ka (κ := 103) rfl).1 _ _) (j := i) (by show (i < 0 ∨ (arrV _ _ _).slots.size ≤ _); rw [arrV_size]; exact inb_out hout) (g := F0 cx.m pc ls (.int x :: .int i :: .ref a :: st)) rfl (rest := st) rfl (by rw [hC.hb]; exact d)
  simp only [arrV_size] at h1
  obtain ⟨t, s1, q⟩ := x_vm (nb := 212) hC (by decide +kernel) (by decide +kernel) (by decide +kernel) (by decide +kernel) (index_text_modelled i (hL h a)) (index_text_bytes i hlen) (by decide) (by decide) (hat_6 hC) hatg_6 g hRf hRl kk hRp hl hlv T hT XS
  exact ⟨t, h1 t s1, q⟩
theorem xz_lastore (hC : Cx cx own cc nL fr lo rt h0) {a : Nat} {i : Int32} {x : Int64} (hκ : hK h a = 102) (hout : ¬ inb i (hL h a)) (hlen : hL h a < 2 ^ 31) (g : 3 ≤ hc h ∧ 222 ≤ hs h) (hRf : 7 < fr) (hRl : (st.map fun v => v.category).sum + 10240 ≤ lo) (d : decode cc pc = .ok (.lastore, 1)) (kk : XT cx nL Q (nz h 3 222) pc lv "java/lang/ArrayIndexOutOfBoundsException" (hn h + 2)) : X cx nL Q h pc lv (.long x :: .int i :: .ref a :: st) := by
  intro H locs ls hRp hl hlv T hT XS
  obtain ⟨hz, q1⟩ := hRp.1.2.2.2.2.1 a 102 hκ rfl
  have h1 := XS.lastoreOut hC.hx (by rw [hT]; exact q1) ((hC.ka (κ := 102) rfl).1 _ _) (j := i) (by show (i < 0 ∨ (arrV _ _ _).slots.size ≤ _); rw [arrV_size]; exact inb_out hout) (g := F0 cx.m pc ls (.long x :: .int i :: .ref a :: st)) rfl (rest := st) rfl (by rw [hC.hb]; exact d)
  simp only [arrV_size] at h1
  obtain ⟨t, s1, q⟩ := x_vm (nb := 212) hC (by decide +kernel) (by decide +kernel) (by decide +kernel) (by decide +kernel) (index_text_modelled i (hL h a)) (index_text_bytes i hlen) (by decide) (by decide) (hat_6 hC) hatg_6 g hRf hRl kk hRp hl hlv T hT XS
  exact ⟨t, h1 t s1, q⟩
theorem xz_newarray (hC : Cx cx own cc nL fr lo rt h0) {atype : ArrayType} {n : Int32} (hneg : n < 0) (g : 3 ≤ hc h ∧ 54 ≤ hs h) (hRf : 7 < fr) (hRl : (st.map fun v => v.category).sum + 10240 ≤ lo) (d : decode cc pc = .ok (.newarray atype, 2)) (kk : XT cx nL Q (nz h 3 54) pc lv "java/lang/NegativeArraySizeException" (hn h + 2)) : X cx nL Q h pc lv (.int n :: st) := fun H locs ls a b c => vx_newarrayZ hC.hx hC.hb hneg d (fun tx e => by
  subst e
  exact x_vm (nb := 44) hC (by decide +kernel) (by decide +kernel) (by decide +kernel) (by decide +kernel) (negative_text_modelled hneg) (negative_text_bytes n) (by decide) (by decide) (hat_8 hC) hatg_8 g (show 6 < fr by omega) hRl kk a b c)
end XY
