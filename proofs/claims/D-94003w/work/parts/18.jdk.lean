/-! lists and texts of the JDK, decompiled -/
set_option maxRecDepth 100000
theorem lk_J1_7_32 : LkF RJ1 7 32 0 := Or.inl ⟨_, q176, Or.inl rfl⟩
theorem lk_J2_48_32 : LkF RJ2 48 32 2 := Or.inl ⟨_, q175, Or.inl rfl⟩
theorem lk_J2_63_32 : LkF RJ2 63 32 0 := Or.inl ⟨_, q177, Or.inr q178⟩
theorem lk_J2_9_32 : LkF RJ2 9 32 1 := Or.inl ⟨_, q174, Or.inl rfl⟩
-- J0_init_k32
def F_J0_init_k32 (h : AH) (a0 : Nat) : Option Unit := some ()
theorem w_J0_init_k32 {cx : zX} {h0 : AH} (hC : Cx cx RJ0 cJ0_init 1 1 20 none h0) (hN : cx.M.name = "<init>") {h : AH} {a0 : Nat} {r : Unit} (hF : F_J0_init_k32 h a0 = some r) : X cx 1 (zQ cx h0 (.inl none) h) h 0 [(0, .ref a0)] [] := by
  refine x_aload_n hC dJ0_init_0 0 rfl ?_
  refine x_objI (st := []) hC q171 q152 q153 (Nat.le_of_ble_eq_true rfl) (Nat.le_of_ble_eq_true rfl) dJ0_init_1 ?_
  have e := some_e hF
  subst e
  exact x_vret hC dJ0_init_4
theorem hy_J0_init_k32 : yJ0_init.cls ≠ "java/lang/invoke/MethodHandle" ∧ yJ0_init.cls ≠ "java/lang/invoke/VarHandle" ∧ (parseMethodDescriptor yJ0_init.desc).map (fun d => d.parameters.length) = some 0 := by decide +kernel
theorem m_J0_init_k32 {Γ : zG} {l : Launch} (hfl : l.flags = flags0) {h : AH} {a0 : Nat} {r : Unit} (hF : F_J0_init_k32 h a0 = some r) : zM Γ l yJ0_init (ws_ yJ0_init cJ0_init 1 none) 1 20 [.ref a0] h (.inl none) h := z_of hfl (by decide) (Nat.le_of_ble_eq_true rfl) fun x hG hl hC hN hE => by subst hG; subst hl; exact w_J0_init_k32 hC hN hF
-- J1_init_k32
def F_J1_init_k32 (h : AH) (a0 : Nat) : Option AH := Option.bind (F_J0_init_k32 h a0) fun r6 => gd (hK h a0 = 32) (lh (wI h a0 0 0) fun h9 => some h9)
theorem w_J1_init_k32 {cx : zX} {h0 : AH} (hC : Cx cx RJ1 cJ1_init 1 2 40 none h0) (hN : cx.M.name = "<init>") {h : AH} {a0 : Nat} {r : AH} (hF : F_J1_init_k32 h a0 = some r) : X cx 1 (zQ cx h0 (.inl none) r) h 0 [(0, .ref a0)] [] := by
  refine x_aload_n hC dJ1_init_0 0 rfl ?_
  obtain ⟨r6, e7, hF⟩ := bd_e hF
  refine xk_I (As := []) (st := []) hC (m_J0_init_k32 hC.fl e7) q168 q169 rfl q170 q99 hy_J0_init_k32 ⟨Nat.le_of_ble_eq_true rfl, Nat.le_of_ble_eq_true rfl⟩ (Nat.le_of_ble_eq_true rfl) rfl dJ1_init_1 ?_
  refine x_aload_n hC dJ1_init_4 0 rfl ?_
  refine x_iconst (v := 0) hC dJ1_init_5 (by decide) ?_
  obtain ⟨g8, hF⟩ := gd_e hF
  obtain ⟨h9, e10, hF⟩ := lh_e hF
  refine x_putI (κ := 32) (k := 0) hC e10 g8 rfl (by decide) lk_J1_7_32 rfl rfl dJ1_init_6 ?_
  have e := some_e hF
  subst e
  exact x_vret hC dJ1_init_9
theorem hy_J1_init_k32 : yJ1_init.cls ≠ "java/lang/invoke/MethodHandle" ∧ yJ1_init.cls ≠ "java/lang/invoke/VarHandle" ∧ (parseMethodDescriptor yJ1_init.desc).map (fun d => d.parameters.length) = some 0 := by decide +kernel
theorem m_J1_init_k32 {Γ : zG} {l : Launch} (hfl : l.flags = flags0) {h : AH} {a0 : Nat} {r : AH} (hF : F_J1_init_k32 h a0 = some r) : zM Γ l yJ1_init (ws_ yJ1_init cJ1_init 1 none) 2 40 [.ref a0] h (.inl none) r := z_of hfl (by decide) (Nat.le_of_ble_eq_true rfl) fun x hG hl hC hN hE => by subst hG; subst hl; exact w_J1_init_k32 hC hN hF
-- J10_copyOf_2
def F_J10_copyOf_2 (h : AH) (a0 : Nat) (x1 : Int32) : Option (Nat × AH) := gd (0 ≤ (x1 : Int32).toInt ∧ ix x1 ≤ 1000000 ∧ 1 ≤ hc h ∧ ix x1 ≤ hs h) (lh (nw h 108 (ix x1) (ix x1)) fun h11 => gd (hK h11 a0 = 108 ∨ hK h11 a0 = 120) (gd (hK h11 a0 = 108 ∧ hK h11 (hn h) = 108) (gd (0 ≤ (0 : Int32).toInt ∧ 0 ≤ (0 : Int32).toInt ∧ 0 ≤ ((imin (Int32.ofNat (hL h11 a0)) x1) : Int32).toInt ∧ ix 0 + ix (imin (Int32.ofNat (hL h11 a0)) x1) ≤ hL h11 a0 ∧ ix 0 + ix (imin (Int32.ofNat (hL h11 a0)) x1) ≤ hL h11 (hn h)) (gd (∀ i, i < ix (imin (Int32.ofNat (hL h11 a0)) x1) → okOb h11 (hR h11 a0 (ix 0 + i)) = true) (lh (cpR h11 a0 (hn h) (ix 0) (ix 0) (ix (imin (Int32.ofNat (hL h11 a0)) x1))) fun h17 => some ((hn h), h17))))))
theorem w_J10_copyOf_2 {cx : zX} {h0 : AH} (hC : Cx cx RJ10 cJ10_copyOf_2 4 1 60 (some (.array (.object "java/lang/Object"))) h0) {mi : Nat} (hmi : zMi cx.G mi) {h : AH} {a0 : Nat} {x1 : Int32} {r : (Nat × AH)} (hF : F_J10_copyOf_2 h a0 x1 = some r) : X cx 4 (zQ cx h0 (.inl (some (.ref r.1))) r.2) h 0 [(0, .ref a0), (1, .int x1), (2, .ref mi)] [] := by
  refine x_aload_n hC dJ10_copyOf_2_0 2 rfl ?_
  refine x_ldcM hC hmi q713 dJ10_copyOf_2_1 ?_
  refine x_acmpM (tgt := 13) hC dJ10_copyOf_2_3 (by decide) ?_
  refine x_iload_n hC dJ10_copyOf_2_6 1 rfl ?_
  obtain ⟨g10, hF⟩ := gd_e hF
  obtain ⟨h11, e12, hF⟩ := lh_e hF
  refine x_anewE (κ := 108) hC e12 rfl rfl q715 q714 g10 dJ10_copyOf_2_7 ?_
  refine x_goto (tgt := 24) hC dJ10_copyOf_2_10 (by decide) ?_
  refine x_astore_n (lv' := [(0, .ref a0), (1, .int x1), (2, .ref mi), (3, .ref (hn h))]) hC dJ10_copyOf_2_24 (by decide) [1, 2, 3, 0] rfl ?_
  refine x_aload_n hC dJ10_copyOf_2_25 0 rfl ?_
  refine x_iconst (v := 0) hC dJ10_copyOf_2_26 (by decide) ?_
  refine x_aload_n hC dJ10_copyOf_2_27 3 rfl ?_
  refine x_iconst (v := 0) hC dJ10_copyOf_2_28 (by decide) ?_
  refine x_aload_n hC dJ10_copyOf_2_29 0 rfl ?_
  obtain ⟨g13, hF⟩ := gd_e hF
  refine x_alen2 hC g13 dJ10_copyOf_2_30 ?_
  refine x_iload_n hC dJ10_copyOf_2_31 1 rfl ?_
  refine x_mmin (st := [.int 0, .ref (hn h), .int 0, .ref a0]) hC q716 q479 q115 q480 (Nat.le_of_ble_eq_true rfl) (Nat.le_of_ble_eq_true rfl) dJ10_copyOf_2_32 ?_
  obtain ⟨g14, hF⟩ := gd_e hF
  obtain ⟨g15, hF⟩ := gd_e hF
  obtain ⟨g16, hF⟩ := gd_e hF
  obtain ⟨h17, e18, hF⟩ := lh_e hF
  refine x_copyR (κ := 108) (st := []) hC e18 g14 rfl g15 (okOb_e g16) q717 q719 q718 q117 (Nat.le_of_ble_eq_true rfl) (Nat.le_of_ble_eq_true rfl) dJ10_copyOf_2_35 ?_
  refine x_aload_n hC dJ10_copyOf_2_38 3 rfl ?_
  have e := some_e hF
  subst e
  exact x_aret hC (Or.inr ⟨_, rfl⟩) dJ10_copyOf_2_39
theorem hy_J10_copyOf_2 : yJ10_copyOf_2.cls ≠ "java/lang/invoke/MethodHandle" ∧ yJ10_copyOf_2.cls ≠ "java/lang/invoke/VarHandle" ∧ (parseMethodDescriptor yJ10_copyOf_2.desc).map (fun d => d.parameters.length) = some 3 := by decide +kernel
theorem m_J10_copyOf_2 {Γ : zG} {l : Launch} (hfl : l.flags = flags0) {mi : Nat} (hmi : zMi Γ mi) {h : AH} {a0 : Nat} {x1 : Int32} {r : (Nat × AH)} (hF : F_J10_copyOf_2 h a0 x1 = some r) : zM Γ l yJ10_copyOf_2 (ws_ yJ10_copyOf_2 cJ10_copyOf_2 4 (some (.array (.object "java/lang/Object")))) 1 60 [.ref a0, .int x1, .ref mi] h (.inl (some (.ref r.1))) r.2 := z_of hfl (by decide) (Nat.le_of_ble_eq_true rfl) fun x hG hl hC hN hE => by subst hG; subst hl; exact w_J10_copyOf_2 hC hmi hF
-- J13_checkIndex
def B_J13_checkIndex_9 (h : AH)  (x0 : Int32) (x1 : Int32) (o2 : Option Nat) : Option Int32 := none
def F_J13_checkIndex (h : AH) (x0 : Int32) (x1 : Int32) (o2 : Option Nat) : Option Int32 := if x0 < 0 then B_J13_checkIndex_9 h x0 x1 o2 else if x0 < x1 then some x0 else B_J13_checkIndex_9 h x0 x1 o2
theorem w_J13_checkIndex_9 {cx : zX} {h0 : AH} (hC : Cx cx RJ13 cJ13_checkIndex 3 0 0 (some .int) h0) {h : AH} {r : Int32}   {x0 : Int32} {x1 : Int32} {o2 : Option Nat} (hF : B_J13_checkIndex_9 h  x0 x1 o2 = some r) : X cx 3 (zQ cx h0 (.inl (some (.int r))) h) h 9 [(0, .int x0), (1, .int x1), (2, rv o2)] [] := by
  refine x_aloadO_n (o := o2) hC rfl dJ13_checkIndex_9 2 rfl ?_
  refine x_iload_n hC dJ13_checkIndex_10 0 rfl ?_
  refine x_iload_n hC dJ13_checkIndex_11 1 rfl ?_
  cases hF
theorem w_J13_checkIndex {cx : zX} {h0 : AH} (hC : Cx cx RJ13 cJ13_checkIndex 3 0 0 (some .int) h0) {h : AH} {x0 : Int32} {x1 : Int32} {o2 : Option Nat} {r : Int32} (hF : F_J13_checkIndex h x0 x1 o2 = some r) : X cx 3 (zQ cx h0 (.inl (some (.int r))) h) h 0 [(0, .int x0), (1, .int x1), (2, rv o2)] [] := by
  refine x_iload_n hC dJ13_checkIndex_0 0 rfl ?_
  refine x_if_lt (tgt := 9) hC dJ13_checkIndex_1 (by decide) (fun u2 => ?_) (fun u2 => ?_)
  · have hF := it_t u2 hF
    exact w_J13_checkIndex_9 hC  hF
  · have hF := it_f u2 hF
    refine x_iload_n hC dJ13_checkIndex_4 0 rfl ?_
    refine x_iload_n hC dJ13_checkIndex_5 1 rfl ?_
    refine x_icmp_lt (tgt := 16) hC dJ13_checkIndex_6 (by decide) (fun u1 => ?_) (fun u1 => ?_)
    · have hF := it_t u1 hF
      refine x_iload_n hC dJ13_checkIndex_16 0 rfl ?_
      have e := some_e hF
      subst e
      exact x_iret hC dJ13_checkIndex_17
    · have hF := it_f u1 hF
      exact w_J13_checkIndex_9 hC  hF
theorem hy_J13_checkIndex : yJ13_checkIndex.cls ≠ "java/lang/invoke/MethodHandle" ∧ yJ13_checkIndex.cls ≠ "java/lang/invoke/VarHandle" ∧ (parseMethodDescriptor yJ13_checkIndex.desc).map (fun d => d.parameters.length) = some 3 := by decide +kernel
theorem m_J13_checkIndex {Γ : zG} {l : Launch} (hfl : l.flags = flags0) {h : AH} {x0 : Int32} {x1 : Int32} {o2 : Option Nat} {r : Int32} (hF : F_J13_checkIndex h x0 x1 o2 = some r) : zM Γ l yJ13_checkIndex (ws_ yJ13_checkIndex cJ13_checkIndex 3 (some .int)) 0 0 [.int x0, .int x1, rv o2] h (.inl (some (.int r))) h := by cases o2 <;> exact z_of hfl (by decide) (Nat.le_of_ble_eq_true rfl) fun x hG hl hC hN hE => by subst hG; subst hl; exact w_J13_checkIndex hC hF
-- J13_checkFromToIndex
def B_J13_checkFromToIndex_14 (h : AH)  (x0 : Int32) (x1 : Int32) (x2 : Int32) (o3 : Option Nat) : Option Int32 := none
def F_J13_checkFromToIndex (h : AH) (x0 : Int32) (x1 : Int32) (x2 : Int32) (o3 : Option Nat) : Option Int32 := if x0 < 0 then B_J13_checkFromToIndex_14 h x0 x1 x2 o3 else if x1 < x0 then B_J13_checkFromToIndex_14 h x0 x1 x2 o3 else if x1 ≤ x2 then some x0 else B_J13_checkFromToIndex_14 h x0 x1 x2 o3
theorem w_J13_checkFromToIndex_14 {cx : zX} {h0 : AH} (hC : Cx cx RJ13 cJ13_checkFromToIndex 4 0 0 (some .int) h0) {h : AH} {r : Int32}   {x0 : Int32} {x1 : Int32} {x2 : Int32} {o3 : Option Nat} (hF : B_J13_checkFromToIndex_14 h  x0 x1 x2 o3 = some r) : X cx 4 (zQ cx h0 (.inl (some (.int r))) h) h 14 [(0, .int x0), (1, .int x1), (2, .int x2), (3, rv o3)] [] := by
  refine x_aloadO_n (o := o3) hC rfl dJ13_checkFromToIndex_14 3 rfl ?_
  refine x_iload_n hC dJ13_checkFromToIndex_15 0 rfl ?_
  refine x_iload_n hC dJ13_checkFromToIndex_16 1 rfl ?_
  refine x_iload_n hC dJ13_checkFromToIndex_17 2 rfl ?_
  cases hF
theorem w_J13_checkFromToIndex {cx : zX} {h0 : AH} (hC : Cx cx RJ13 cJ13_checkFromToIndex 4 0 0 (some .int) h0) {h : AH} {x0 : Int32} {x1 : Int32} {x2 : Int32} {o3 : Option Nat} {r : Int32} (hF : F_J13_checkFromToIndex h x0 x1 x2 o3 = some r) : X cx 4 (zQ cx h0 (.inl (some (.int r))) h) h 0 [(0, .int x0), (1, .int x1), (2, .int x2), (3, rv o3)] [] := by
  refine x_iload_n hC dJ13_checkFromToIndex_0 0 rfl ?_
  refine x_if_lt (tgt := 14) hC dJ13_checkFromToIndex_1 (by decide) (fun u3 => ?_) (fun u3 => ?_)
  · have hF := it_t u3 hF
    exact w_J13_checkFromToIndex_14 hC  hF
  · have hF := it_f u3 hF
    refine x_iload_n hC dJ13_checkFromToIndex_4 0 rfl ?_
    refine x_iload_n hC dJ13_checkFromToIndex_5 1 rfl ?_
    refine x_icmp_gt (tgt := 14) hC dJ13_checkFromToIndex_6 (by decide) (fun u2 => ?_) (fun u2 => ?_)
    · have hF := it_t u2 hF
      exact w_J13_checkFromToIndex_14 hC  hF
    · have hF := it_f u2 hF
      refine x_iload_n hC dJ13_checkFromToIndex_9 1 rfl ?_
      refine x_iload_n hC dJ13_checkFromToIndex_10 2 rfl ?_
      refine x_icmp_le (tgt := 22) hC dJ13_checkFromToIndex_11 (by decide) (fun u1 => ?_) (fun u1 => ?_)
      · have hF := it_t u1 hF
        refine x_iload_n hC dJ13_checkFromToIndex_22 0 rfl ?_
        have e := some_e hF
        subst e
        exact x_iret hC dJ13_checkFromToIndex_23
      · have hF := it_f u1 hF
        exact w_J13_checkFromToIndex_14 hC  hF
theorem hy_J13_checkFromToIndex : yJ13_checkFromToIndex.cls ≠ "java/lang/invoke/MethodHandle" ∧ yJ13_checkFromToIndex.cls ≠ "java/lang/invoke/VarHandle" ∧ (parseMethodDescriptor yJ13_checkFromToIndex.desc).map (fun d => d.parameters.length) = some 4 := by decide +kernel
theorem m_J13_checkFromToIndex {Γ : zG} {l : Launch} (hfl : l.flags = flags0) {h : AH} {x0 : Int32} {x1 : Int32} {x2 : Int32} {o3 : Option Nat} {r : Int32} (hF : F_J13_checkFromToIndex h x0 x1 x2 o3 = some r) : zM Γ l yJ13_checkFromToIndex (ws_ yJ13_checkFromToIndex cJ13_checkFromToIndex 4 (some .int)) 0 0 [.int x0, .int x1, .int x2, rv o3] h (.inl (some (.int r))) h := by cases o3 <;> exact z_of hfl (by decide) (Nat.le_of_ble_eq_true rfl) fun x hG hl hC hN hE => by subst hG; subst hl; exact w_J13_checkFromToIndex hC hF
-- J14_isLatin1
def B_J14_isLatin1_18 (h : AH)  (t0 : Int32) : Option Int32 := gd (bl t0) (some t0)
def B_J14_isLatin1_17 (h : AH)   : Option Int32 := B_J14_isLatin1_18 h 0
def F_J14_isLatin1 (h : AH) (s0 : Nat) : Option Int32 := if (1 : Int32) = 0 then B_J14_isLatin1_17 h else gd (s0 < 48) (if (0 : Int32) = 0 then B_J14_isLatin1_18 h 1 else B_J14_isLatin1_17 h)
theorem w_J14_isLatin1_18 {cx : zX} {h0 : AH} (hC : Cx cx RJ14 cJ14_isLatin1 1 0 0 (some .boolean) h0) {h : AH} {r : Int32}   {t0 : Int32} (hF : B_J14_isLatin1_18 h  t0 = some r) : X cx 1 (zQ cx h0 (.inl (some (.int r))) h) h 18 [] [.int t0] := by
  obtain ⟨g2, hF⟩ := gd_e hF
  have e := some_e hF
  subst e
  exact x_zret (ty := .boolean) hC (bl_n g2) dJ14_isLatin1_18
theorem w_J14_isLatin1_17 {cx : zX} {h0 : AH} (hC : Cx cx RJ14 cJ14_isLatin1 1 0 0 (some .boolean) h0) {h : AH} {r : Int32}    (hF : B_J14_isLatin1_17 h   = some r) : X cx 1 (zQ cx h0 (.inl (some (.int r))) h) h 17 [] [] := by
  refine x_iconst (v := 0) hC dJ14_isLatin1_17 (by decide) ?_
  exact w_J14_isLatin1_18 hC  hF
theorem w_J14_isLatin1 {cx : zX} {h0 : AH} (hC : Cx cx RJ14 cJ14_isLatin1 1 0 0 (some .boolean) h0) {h : AH} {s0 : Nat} {r : Int32} (hF : F_J14_isLatin1 h s0 = some r) : X cx 1 (zQ cx h0 (.inl (some (.int r))) h) h 0 [(0, .ref (zAd cx.G s0))] [] := by
  refine x_getcs hC q861 dJ14_isLatin1_0 ?_
  refine x_if_eq (tgt := 17) hC dJ14_isLatin1_3 (by decide) (fun u5 => ?_) (fun u5 => ?_)
  · have hF := it_t u5 hF
    refine X.sub (lv' := []) [] rfl ?_
    exact w_J14_isLatin1_17 hC  hF
  · have hF := it_f u5 hF
    refine x_aload_n hC dJ14_isLatin1_6 0 rfl ?_
    obtain ⟨g3, hF⟩ := gd_e hF
    refine x_scod hC g3 q2458 dJ14_isLatin1_7 ?_
    refine x_if_ne (tgt := 17) hC dJ14_isLatin1_10 (by decide) (fun u4 => ?_) (fun u4 => ?_)
    · have hF := it_f u4 hF
      refine X.sub (lv' := []) [] rfl ?_
      exact w_J14_isLatin1_17 hC  hF
    · have hF := it_t u4 hF
      refine x_iconst (v := 1) hC dJ14_isLatin1_13 (by decide) ?_
      refine x_goto (tgt := 18) hC dJ14_isLatin1_14 (by decide) ?_
      refine X.sub (lv' := []) [] rfl ?_
      exact w_J14_isLatin1_18 hC  hF
theorem hy_J14_isLatin1 : yJ14_isLatin1.cls ≠ "java/lang/invoke/MethodHandle" ∧ yJ14_isLatin1.cls ≠ "java/lang/invoke/VarHandle" ∧ (parseMethodDescriptor yJ14_isLatin1.desc).map (fun d => d.parameters.length) = some 0 := by decide +kernel
theorem m_J14_isLatin1 {Γ : zG} {l : Launch} (hfl : l.flags = flags0) {h : AH} {s0 : Nat} {r : Int32} (hF : F_J14_isLatin1 h s0 = some r) : zM Γ l yJ14_isLatin1 (ws_ yJ14_isLatin1 cJ14_isLatin1 1 (some .boolean)) 0 0 [.ref (zAd Γ s0)] h (.inl (some (.int r))) h := z_of hfl (by decide) (Nat.le_of_ble_eq_true rfl) fun x hG hl hC hN hE => by subst hG; subst hl; exact w_J14_isLatin1 hC hF
-- J14_coder
def B_J14_coder_14 (h : AH)  (t0 : Int32) : Option Int32 := gd (Int8.toInt32 (Int32.toInt8 t0) = t0) (some t0)
def F_J14_coder (h : AH) (s0 : Nat) : Option Int32 := if (1 : Int32) = 0 then B_J14_coder_14 h 1 else gd (s0 < 48) (B_J14_coder_14 h 0)
theorem w_J14_coder_14 {cx : zX} {h0 : AH} (hC : Cx cx RJ14 cJ14_coder 1 0 0 (some .byte) h0) {h : AH} {r : Int32}   {t0 : Int32} (hF : B_J14_coder_14 h  t0 = some r) : X cx 1 (zQ cx h0 (.inl (some (.int r))) h) h 14 [] [.int t0] := by
  obtain ⟨g2, hF⟩ := gd_e hF
  have e := some_e hF
  subst e
  exact x_zret (ty := .byte) hC (by rw [← g2]; exact pk_nb _) dJ14_coder_14
theorem w_J14_coder {cx : zX} {h0 : AH} (hC : Cx cx RJ14 cJ14_coder 1 0 0 (some .byte) h0) {h : AH} {s0 : Nat} {r : Int32} (hF : F_J14_coder h s0 = some r) : X cx 1 (zQ cx h0 (.inl (some (.int r))) h) h 0 [(0, .ref (zAd cx.G s0))] [] := by
  refine x_getcs hC q861 dJ14_coder_0 ?_
  refine x_if_eq (tgt := 13) hC dJ14_coder_3 (by decide) (fun u4 => ?_) (fun u4 => ?_)
  · have hF := it_t u4 hF
    refine x_iconst (v := 1) hC dJ14_coder_13 (by decide) ?_
    refine X.sub (lv' := []) [] rfl ?_
    exact w_J14_coder_14 hC  hF
  · have hF := it_f u4 hF
    refine x_aload_n hC dJ14_coder_6 0 rfl ?_
    obtain ⟨g3, hF⟩ := gd_e hF
    refine x_scod hC g3 q2458 dJ14_coder_7 ?_
    refine x_goto (tgt := 14) hC dJ14_coder_10 (by decide) ?_
    refine X.sub (lv' := []) [] rfl ?_
    exact w_J14_coder_14 hC  hF
theorem hy_J14_coder : yJ14_coder.cls ≠ "java/lang/invoke/MethodHandle" ∧ yJ14_coder.cls ≠ "java/lang/invoke/VarHandle" ∧ (parseMethodDescriptor yJ14_coder.desc).map (fun d => d.parameters.length) = some 0 := by decide +kernel
theorem m_J14_coder {Γ : zG} {l : Launch} (hfl : l.flags = flags0) {h : AH} {s0 : Nat} {r : Int32} (hF : F_J14_coder h s0 = some r) : zM Γ l yJ14_coder (ws_ yJ14_coder cJ14_coder 1 (some .byte)) 0 0 [.ref (zAd Γ s0)] h (.inl (some (.int r))) h := z_of hfl (by decide) (Nat.le_of_ble_eq_true rfl) fun x hG hl hC hN hE => by subst hG; subst hl; exact w_J14_coder hC hF
-- J14_checkBoundsBeginEnd
def F_J14_checkBoundsBeginEnd (h : AH) (x0 : Int32) (x1 : Int32) (x2 : Int32) : Option Unit := Option.bind (F_J13_checkFromToIndex h x0 x1 x2 (hR h 0 1)) fun r3 => some ()
theorem w_J14_checkBoundsBeginEnd {cx : zX} {h0 : AH} (hC : Cx cx RJ14 cJ14_checkBoundsBeginEnd 3 1 23 none h0) {h : AH} {x0 : Int32} {x1 : Int32} {x2 : Int32} {r : Unit} (hF : F_J14_checkBoundsBeginEnd h x0 x1 x2 = some r) : X cx 3 (zQ cx h0 (.inl none) h) h 0 [(0, .int x0), (1, .int x1), (2, .int x2)] [] := by
  refine x_iload_n hC dJ14_checkBoundsBeginEnd_0 0 rfl ?_
  refine x_iload_n hC dJ14_checkBoundsBeginEnd_1 1 rfl ?_
  refine x_iload_n hC dJ14_checkBoundsBeginEnd_2 2 rfl ?_
  refine x_gets (j := 1) hC rfl q900 rfl dJ14_checkBoundsBeginEnd_3 ?_
  obtain ⟨r3, e4, hF⟩ := bd_e hF
  refine xk_S (As := [.int x0, .int x1, .int x2, rv (hR h 0 1)]) (st := []) hC (m_J13_checkFromToIndex hC.fl e4) q902 q903 q904 q120 hy_J13_checkFromToIndex ⟨Nat.le_of_ble_eq_true rfl, Nat.le_of_ble_eq_true rfl⟩ (Nat.le_of_ble_eq_true rfl) rfl dJ14_checkBoundsBeginEnd_6 ?_
  refine x_pop hC dJ14_checkBoundsBeginEnd_9 rfl ?_
  have e := some_e hF
  subst e
  exact x_vret hC dJ14_checkBoundsBeginEnd_10
theorem hy_J14_checkBoundsBeginEnd : yJ14_checkBoundsBeginEnd.cls ≠ "java/lang/invoke/MethodHandle" ∧ yJ14_checkBoundsBeginEnd.cls ≠ "java/lang/invoke/VarHandle" ∧ (parseMethodDescriptor yJ14_checkBoundsBeginEnd.desc).map (fun d => d.parameters.length) = some 3 := by decide +kernel
theorem m_J14_checkBoundsBeginEnd {Γ : zG} {l : Launch} (hfl : l.flags = flags0) {h : AH} {x0 : Int32} {x1 : Int32} {x2 : Int32} {r : Unit} (hF : F_J14_checkBoundsBeginEnd h x0 x1 x2 = some r) : zM Γ l yJ14_checkBoundsBeginEnd (ws_ yJ14_checkBoundsBeginEnd cJ14_checkBoundsBeginEnd 3 none) 1 23 [.int x0, .int x1, .int x2] h (.inl none) h := z_of hfl (by decide) (Nat.le_of_ble_eq_true rfl) fun x hG hl hC hN hE => by subst hG; subst hl; exact w_J14_checkBoundsBeginEnd hC hF
-- J14_checkIndex
def F_J14_checkIndex (h : AH) (x0 : Int32) (x1 : Int32) : Option Unit := Option.bind (F_J13_checkIndex h x0 x1 (hR h 0 1)) fun r3 => some ()
theorem w_J14_checkIndex {cx : zX} {h0 : AH} (hC : Cx cx RJ14 cJ14_checkIndex 2 1 22 none h0) {h : AH} {x0 : Int32} {x1 : Int32} {r : Unit} (hF : F_J14_checkIndex h x0 x1 = some r) : X cx 2 (zQ cx h0 (.inl none) h) h 0 [(0, .int x0), (1, .int x1)] [] := by
  refine x_iload_n hC dJ14_checkIndex_0 0 rfl ?_
  refine x_iload_n hC dJ14_checkIndex_1 1 rfl ?_
  refine x_gets (j := 1) hC rfl q900 rfl dJ14_checkIndex_2 ?_
  obtain ⟨r3, e4, hF⟩ := bd_e hF
  refine xk_S (As := [.int x0, .int x1, rv (hR h 0 1)]) (st := []) hC (m_J13_checkIndex hC.fl e4) q1000 q460 q461 q120 hy_J13_checkIndex ⟨Nat.le_of_ble_eq_true rfl, Nat.le_of_ble_eq_true rfl⟩ (Nat.le_of_ble_eq_true rfl) rfl dJ14_checkIndex_5 ?_
  refine x_pop hC dJ14_checkIndex_8 rfl ?_
  have e := some_e hF
  subst e
  exact x_vret hC dJ14_checkIndex_9
theorem hy_J14_checkIndex : yJ14_checkIndex.cls ≠ "java/lang/invoke/MethodHandle" ∧ yJ14_checkIndex.cls ≠ "java/lang/invoke/VarHandle" ∧ (parseMethodDescriptor yJ14_checkIndex.desc).map (fun d => d.parameters.length) = some 2 := by decide +kernel
theorem m_J14_checkIndex {Γ : zG} {l : Launch} (hfl : l.flags = flags0) {h : AH} {x0 : Int32} {x1 : Int32} {r : Unit} (hF : F_J14_checkIndex h x0 x1 = some r) : zM Γ l yJ14_checkIndex (ws_ yJ14_checkIndex cJ14_checkIndex 2 none) 1 22 [.int x0, .int x1] h (.inl none) h := z_of hfl (by decide) (Nat.le_of_ble_eq_true rfl) fun x hG hl hC hN hE => by subst hG; subst hl; exact w_J14_checkIndex hC hF
-- J15_canEncode
def B_J15_canEncode_16 (h : AH)  (t0 : Int32) : Option Int32 := gd (bl t0) (some t0)
def B_J15_canEncode_15 (h : AH)   : Option Int32 := B_J15_canEncode_16 h 0
def F_J15_canEncode (h : AH) (x0 : Int32) : Option Int32 := if x0 < 0 then B_J15_canEncode_15 h else if 255 < x0 then B_J15_canEncode_15 h else B_J15_canEncode_16 h 1
theorem w_J15_canEncode_16 {cx : zX} {h0 : AH} (hC : Cx cx RJ15 cJ15_canEncode 1 0 0 (some .boolean) h0) {h : AH} {r : Int32}   {t0 : Int32} (hF : B_J15_canEncode_16 h  t0 = some r) : X cx 1 (zQ cx h0 (.inl (some (.int r))) h) h 16 [] [.int t0] := by
  obtain ⟨g1, hF⟩ := gd_e hF
  have e := some_e hF
  subst e
  exact x_zret (ty := .boolean) hC (bl_n g1) dJ15_canEncode_16
theorem w_J15_canEncode_15 {cx : zX} {h0 : AH} (hC : Cx cx RJ15 cJ15_canEncode 1 0 0 (some .boolean) h0) {h : AH} {r : Int32}    (hF : B_J15_canEncode_15 h   = some r) : X cx 1 (zQ cx h0 (.inl (some (.int r))) h) h 15 [] [] := by
  refine x_iconst (v := 0) hC dJ15_canEncode_15 (by decide) ?_
  exact w_J15_canEncode_16 hC  hF
theorem w_J15_canEncode {cx : zX} {h0 : AH} (hC : Cx cx RJ15 cJ15_canEncode 1 0 0 (some .boolean) h0) {h : AH} {x0 : Int32} {r : Int32} (hF : F_J15_canEncode h x0 = some r) : X cx 1 (zQ cx h0 (.inl (some (.int r))) h) h 0 [(0, .int x0)] [] := by
  refine x_iload_n hC dJ15_canEncode_0 0 rfl ?_
  refine x_if_lt (tgt := 15) hC dJ15_canEncode_1 (by decide) (fun u3 => ?_) (fun u3 => ?_)
  · have hF := it_t u3 hF
    refine X.sub (lv' := []) [] rfl ?_
    exact w_J15_canEncode_15 hC  hF
  · have hF := it_f u3 hF
    refine x_iload_n hC dJ15_canEncode_4 0 rfl ?_
    refine x_sipush (v := 255) hC dJ15_canEncode_5 (by decide) ?_
    refine x_icmp_gt (tgt := 15) hC dJ15_canEncode_8 (by decide) (fun u2 => ?_) (fun u2 => ?_)
    · have hF := it_t u2 hF
      refine X.sub (lv' := []) [] rfl ?_
      exact w_J15_canEncode_15 hC  hF
    · have hF := it_f u2 hF
      refine x_iconst (v := 1) hC dJ15_canEncode_11 (by decide) ?_
      refine x_goto (tgt := 16) hC dJ15_canEncode_12 (by decide) ?_
      refine X.sub (lv' := []) [] rfl ?_
      exact w_J15_canEncode_16 hC  hF
theorem hy_J15_canEncode : yJ15_canEncode.cls ≠ "java/lang/invoke/MethodHandle" ∧ yJ15_canEncode.cls ≠ "java/lang/invoke/VarHandle" ∧ (parseMethodDescriptor yJ15_canEncode.desc).map (fun d => d.parameters.length) = some 1 := by decide +kernel
theorem m_J15_canEncode {Γ : zG} {l : Launch} (hfl : l.flags = flags0) {h : AH} {x0 : Int32} {r : Int32} (hF : F_J15_canEncode h x0 = some r) : zM Γ l yJ15_canEncode (ws_ yJ15_canEncode cJ15_canEncode 1 (some .boolean)) 0 0 [.int x0] h (.inl (some (.int r))) h := z_of hfl (by decide) (Nat.le_of_ble_eq_true rfl) fun x hG hl hC hN hE => by subst hG; subst hl; exact w_J15_canEncode hC hF
-- J15_indexOfChar
def B_J15_indexOfChar_31 (h : AH)   : Option Int32 := some (-1)
def B_J15_indexOfChar_22 (h : AH)  (x5 : Int32) : Option Int32 := some x5
def B_J15_indexOfChar_7 (h : AH) (kh7 : Nat → Int32 → Int32 → Int32 → Option Int32) (w0 : Nat) (x3 : Int32) (x4 : Int32) (x5 : Int32) : Option Int32 := if x3 ≤ x5 then B_J15_indexOfChar_31 h else gd (w0 < 48 ∧ inb x5 (sLen w0)) (if (sByt w0 (ix x5)) = x4 then B_J15_indexOfChar_22 h x5 else kh7 w0 x3 x4 (x5 + 1))
def L_J15_indexOfChar_7 (h : AH)  (self : (Nat × Int32 × Int32 × Int32) → Option Int32) (s : Nat × Int32 × Int32 × Int32) : Option Int32 := B_J15_indexOfChar_7 h  (fun w0 x3 x4 x5 => self (w0, x3, x4, x5)) s.1 s.2.1 s.2.2.1 s.2.2.2
def G_J15_indexOfChar_7 (h : AH)  (w0 : Nat) (x3 : Int32) (x4 : Int32) (x5 : Int32) : Option Int32 := lp (L_J15_indexOfChar_7 h ) fuel (w0, x3, x4, x5)
def F_J15_indexOfChar (h : AH) (w0 : Nat) (x1 : Int32) (x2 : Int32) (x3 : Int32) : Option Int32 := G_J15_indexOfChar_7 h w0 x3 (Int8.toInt32 (Int32.toInt8 x1)) x2
theorem w_J15_indexOfChar_31 {cx : zX} {h0 : AH} (hC : Cx cx RJ15 cJ15_indexOfChar 6 0 0 (some .int) h0) {h : AH} {r : Int32}    (hF : B_J15_indexOfChar_31 h   = some r) : X cx 6 (zQ cx h0 (.inl (some (.int r))) h) h 31 [] [] := by
  refine x_iconst (v := (-1)) hC dJ15_indexOfChar_31 (by decide) ?_
  have e := some_e hF
  subst e
  exact x_iret hC dJ15_indexOfChar_32
theorem w_J15_indexOfChar_22 {cx : zX} {h0 : AH} (hC : Cx cx RJ15 cJ15_indexOfChar 6 0 0 (some .int) h0) {h : AH} {r : Int32}   {x5 : Int32} (hF : B_J15_indexOfChar_22 h  x5 = some r) : X cx 6 (zQ cx h0 (.inl (some (.int r))) h) h 22 [(5, .int x5)] [] := by
  refine x_iload hC dJ15_indexOfChar_22 0 rfl ?_
  have e := some_e hF
  subst e
  exact x_iret hC dJ15_indexOfChar_24
theorem w_J15_indexOfChar_7 {cx : zX} {h0 : AH} (hC : Cx cx RJ15 cJ15_indexOfChar 6 0 0 (some .int) h0) {h : AH} {r : Int32} {kh7 : Nat → Int32 → Int32 → Int32 → Option Int32} (hk7 : ∀ (w0 : Nat) (x3 : Int32) (x4 : Int32) (x5 : Int32), kh7 w0 x3 x4 x5 = some r → X cx 6 (zQ cx h0 (.inl (some (.int r))) h) h 7 [(0, .ref (zAv cx.G w0)), (3, .int x3), (4, .int x4), (5, .int x5)] []) {w0 : Nat} {x3 : Int32} {x4 : Int32} {x5 : Int32} (hF : B_J15_indexOfChar_7 h kh7 w0 x3 x4 x5 = some r) : X cx 6 (zQ cx h0 (.inl (some (.int r))) h) h 7 [(0, .ref (zAv cx.G w0)), (3, .int x3), (4, .int x4), (5, .int x5)] [] := by
  refine x_iload hC dJ15_indexOfChar_7 3 rfl ?_
  refine x_iload_n hC dJ15_indexOfChar_9 1 rfl ?_
  refine x_icmp_ge (tgt := 31) hC dJ15_indexOfChar_10 (by decide) (fun u5 => ?_) (fun u5 => ?_)
  · have hF := it_t u5 hF
    refine X.sub (lv' := []) [] rfl ?_
    exact w_J15_indexOfChar_31 hC  hF
  · have hF := it_f u5 hF
    refine x_aload_n hC dJ15_indexOfChar_13 0 rfl ?_
    refine x_iload hC dJ15_indexOfChar_14 3 rfl ?_
    obtain ⟨g3, hF⟩ := gd_e hF
    refine x_tald hC g3.1 g3.2 dJ15_indexOfChar_16 ?_
    refine x_iload hC dJ15_indexOfChar_17 2 rfl ?_
    refine x_icmp_ne (tgt := 25) hC dJ15_indexOfChar_19 (by decide) (fun u4 => ?_) (fun u4 => ?_)
    · have hF := it_f u4 hF
      refine x_iinc (lv' := [(0, .ref (zAv cx.G w0)), (3, .int x3), (4, .int x4), (5, .int (x5 + 1))]) hC dJ15_indexOfChar_25 3 rfl rfl (by decide) [1, 2, 3, 0] rfl ?_
      refine x_goto (tgt := 7) hC dJ15_indexOfChar_28 (by decide) ?_
      exact hk7 _ _ _ _ hF
    · have hF := it_t u4 hF
      refine X.sub (lv' := [(5, .int x5)]) [3] rfl ?_
      exact w_J15_indexOfChar_22 hC  hF
theorem wl_J15_indexOfChar_7 {cx : zX} {h0 : AH} (hC : Cx cx RJ15 cJ15_indexOfChar 6 0 0 (some .int) h0) {h : AH} {r : Int32}   {w0 : Nat} {x3 : Int32} {x4 : Int32} {x5 : Int32} (hF : G_J15_indexOfChar_7 h  w0 x3 x4 x5 = some r) : X cx 6 (zQ cx h0 (.inl (some (.int r))) h) h 7 [(0, .ref (zAv cx.G w0)), (3, .int x3), (4, .int x4), (5, .int x5)] [] := by
  refine lp_ind (body := L_J15_indexOfChar_7 h ) (P := fun s => X cx 6 (zQ cx h0 (.inl (some (.int r))) h) h 7 [(0, .ref (zAv cx.G (s.1))), (3, .int (s.2.1)), (4, .int (s.2.2.1)), (5, .int (s.2.2.2))] []) (fun self ih s hB => ?_) fuel (w0, x3, x4, x5) hF
  exact w_J15_indexOfChar_7 (h := h) (r := r)  (kh7 := (fun w0 x3 x4 x5 => self (w0, x3, x4, x5))) (w0 := s.1) (x3 := s.2.1) (x4 := s.2.2.1) (x5 := s.2.2.2) hC  (fun w0 x3 x4 x5 e => ih (w0, x3, x4, x5) e) hB
theorem w_J15_indexOfChar {cx : zX} {h0 : AH} (hC : Cx cx RJ15 cJ15_indexOfChar 6 0 0 (some .int) h0) {h : AH} {w0 : Nat} {x1 : Int32} {x2 : Int32} {x3 : Int32} {r : Int32} (hF : F_J15_indexOfChar h w0 x1 x2 x3 = some r) : X cx 6 (zQ cx h0 (.inl (some (.int r))) h) h 0 [(0, .ref (zAv cx.G w0)), (1, .int x1), (2, .int x2), (3, .int x3)] [] := by
  refine x_iload_n hC dJ15_indexOfChar_0 1 rfl ?_
  refine x_i2b hC dJ15_indexOfChar_1 ?_
  refine x_istore (lv' := [(0, .ref (zAv cx.G w0)), (1, .int x1), (2, .int x2), (3, .int x3), (4, .int (Int8.toInt32 (Int32.toInt8 x1)))]) hC dJ15_indexOfChar_2 (by decide) [1, 2, 3, 4, 0] rfl ?_
  refine x_iload_n hC dJ15_indexOfChar_4 2 rfl ?_
  refine x_istore (lv' := [(0, .ref (zAv cx.G w0)), (1, .int x1), (2, .int x2), (3, .int x3), (4, .int (Int8.toInt32 (Int32.toInt8 x1))), (5, .int x2)]) hC dJ15_indexOfChar_5 (by decide) [1, 2, 3, 4, 5, 0] rfl ?_
  refine X.sub (lv' := [(0, .ref (zAv cx.G w0)), (3, .int x3), (4, .int (Int8.toInt32 (Int32.toInt8 x1))), (5, .int x2)]) [0, 3, 4, 5] rfl ?_
  exact wl_J15_indexOfChar_7 hC  hF
theorem hy_J15_indexOfChar : yJ15_indexOfChar.cls ≠ "java/lang/invoke/MethodHandle" ∧ yJ15_indexOfChar.cls ≠ "java/lang/invoke/VarHandle" ∧ (parseMethodDescriptor yJ15_indexOfChar.desc).map (fun d => d.parameters.length) = some 4 := by decide +kernel
theorem m_J15_indexOfChar {Γ : zG} {l : Launch} (hfl : l.flags = flags0) {h : AH} {w0 : Nat} {x1 : Int32} {x2 : Int32} {x3 : Int32} {r : Int32} (hF : F_J15_indexOfChar h w0 x1 x2 x3 = some r) : zM Γ l yJ15_indexOfChar (ws_ yJ15_indexOfChar cJ15_indexOfChar 6 (some .int)) 0 0 [.ref (zAv Γ w0), .int x1, .int x2, .int x3] h (.inl (some (.int r))) h := z_of hfl (by decide) (Nat.le_of_ble_eq_true rfl) fun x hG hl hC hN hE => by subst hG; subst hl; exact w_J15_indexOfChar hC hF
-- J15_charAt
def F_J15_charAt (h : AH) (w0 : Nat) (x1 : Int32) : Option Int32 := gd (w0 < 48) (Option.bind (F_J14_checkIndex h x1 (Int32.ofNat (sLen w0))) fun r6 => gd (w0 < 48 ∧ inb x1 (sLen w0)) (gd (i2c (i2c ((sByt w0 (ix x1)) &&& 255)) = (i2c ((sByt w0 (ix x1)) &&& 255))) (some (i2c ((sByt w0 (ix x1)) &&& 255)))))
theorem w_J15_charAt {cx : zX} {h0 : AH} (hC : Cx cx RJ15 cJ15_charAt 2 2 43 (some .char) h0) {h : AH} {w0 : Nat} {x1 : Int32} {r : Int32} (hF : F_J15_charAt h w0 x1 = some r) : X cx 2 (zQ cx h0 (.inl (some (.int r))) h) h 0 [(0, .ref (zAv cx.G w0)), (1, .int x1)] [] := by
  refine x_iload_n hC dJ15_charAt_0 1 rfl ?_
  refine x_aload_n hC dJ15_charAt_1 0 rfl ?_
  obtain ⟨g5, hF⟩ := gd_e hF
  refine x_slen hC g5 dJ15_charAt_2 ?_
  obtain ⟨r6, e7, hF⟩ := bd_e hF
  refine xk_S (As := [.int x1, .int (Int32.ofNat (sLen w0))]) (st := []) hC (m_J14_checkIndex hC.fl e7) q997 q998 q999 q125 hy_J14_checkIndex ⟨Nat.le_of_ble_eq_true rfl, Nat.le_of_ble_eq_true rfl⟩ (Nat.le_of_ble_eq_true rfl) rfl dJ15_charAt_3 ?_
  refine x_aload_n hC dJ15_charAt_6 0 rfl ?_
  refine x_iload_n hC dJ15_charAt_7 1 rfl ?_
  obtain ⟨g8, hF⟩ := gd_e hF
  refine x_tald hC g8.1 g8.2 dJ15_charAt_8 ?_
  refine x_sipush (v := 255) hC dJ15_charAt_9 (by decide) ?_
  refine x_iand hC dJ15_charAt_12 ?_
  refine x_i2c hC dJ15_charAt_13 ?_
  obtain ⟨g9, hF⟩ := gd_e hF
  have e := some_e hF
  subst e
  exact x_zret (ty := .char) hC (by rw [← g9]; exact pk_nc _) dJ15_charAt_14
theorem hy_J15_charAt : yJ15_charAt.cls ≠ "java/lang/invoke/MethodHandle" ∧ yJ15_charAt.cls ≠ "java/lang/invoke/VarHandle" ∧ (parseMethodDescriptor yJ15_charAt.desc).map (fun d => d.parameters.length) = some 2 := by decide +kernel
theorem m_J15_charAt {Γ : zG} {l : Launch} (hfl : l.flags = flags0) {h : AH} {w0 : Nat} {x1 : Int32} {r : Int32} (hF : F_J15_charAt h w0 x1 = some r) : zM Γ l yJ15_charAt (ws_ yJ15_charAt cJ15_charAt 2 (some .char)) 2 43 [.ref (zAv Γ w0), .int x1] h (.inl (some (.int r))) h := z_of hfl (by decide) (Nat.le_of_ble_eq_true rfl) fun x hG hl hC hN hE => by subst hG; subst hl; exact w_J15_charAt hC hF
-- J2_init
def F_J2_init (h : AH) (a0 : Nat) : Option AH := Option.bind (F_J1_init_k32 h a0) fun r8 => Option.bind (hR r8 0 0) fun b10 => gd (hK r8 a0 = 32) (lh (wR r8 a0 1 (some b10)) fun h13 => some h13)
theorem w_J2_init {cx : zX} {h0 : AH} (hC : Cx cx RJ2 cJ2_init 1 3 60 none h0) (hN : cx.M.name = "<init>") {h : AH} {a0 : Nat} {r : AH} (hF : F_J2_init h a0 = some r) : X cx 1 (zQ cx h0 (.inl none) r) h 0 [(0, .ref a0)] [] := by
  refine x_aload_n hC dJ2_init_0 0 rfl ?_
  obtain ⟨r8, e9, hF⟩ := bd_e hF
  refine xk_I (As := []) (st := []) hC (m_J1_init_k32 hC.fl e9) q165 q166 rfl q167 q100 hy_J1_init_k32 ⟨Nat.le_of_ble_eq_true rfl, Nat.le_of_ble_eq_true rfl⟩ (Nat.le_of_ble_eq_true rfl) rfl dJ2_init_1 ?_
  refine x_aload_n hC dJ2_init_4 0 rfl ?_
  obtain ⟨b10, e11, hF⟩ := bd_e hF
  refine x_gets (j := 0) (v := .ref b10) hC rfl q172 (by rw [e11]; rfl) dJ2_init_5 ?_
  obtain ⟨g12, hF⟩ := gd_e hF
  obtain ⟨h13, e14, hF⟩ := lh_e hF
  refine x_putO (κ := 32) (k := 1) (o := (some b10)) hC e14 g12 rfl (by decide) lk_J2_9_32 rfl rfl rfl dJ2_init_8 ?_
  have e := some_e hF
  subst e
  exact x_vret hC dJ2_init_11
theorem hy_J2_init : yJ2_init.cls ≠ "java/lang/invoke/MethodHandle" ∧ yJ2_init.cls ≠ "java/lang/invoke/VarHandle" ∧ (parseMethodDescriptor yJ2_init.desc).map (fun d => d.parameters.length) = some 0 := by decide +kernel
theorem m_J2_init {Γ : zG} {l : Launch} (hfl : l.flags = flags0) {h : AH} {a0 : Nat} {r : AH} (hF : F_J2_init h a0 = some r) : zM Γ l yJ2_init (ws_ yJ2_init cJ2_init 1 none) 3 60 [.ref a0] h (.inl none) r := z_of hfl (by decide) (Nat.le_of_ble_eq_true rfl) fun x hG hl hC hN hE => by subst hG; subst hl; exact w_J2_init hC hN hF
-- J2_size
def F_J2_size (h : AH) (a0 : Nat) : Option Int32 := gd (hK h a0 = 32) (some (hI h a0 2))
theorem w_J2_size {cx : zX} {h0 : AH} (hC : Cx cx RJ2 cJ2_size 1 0 0 (some .int) h0) {h : AH} {a0 : Nat} {r : Int32} (hF : F_J2_size h a0 = some r) : X cx 1 (zQ cx h0 (.inl (some (.int r))) h) h 0 [(0, .ref a0)] [] := by
  refine x_aload_n hC dJ2_size_0 0 rfl ?_
  obtain ⟨g2, hF⟩ := gd_e hF
  refine x_get (κ := 32) (k := 2) (v := .int (hI h a0 2)) hC g2 rfl (by decide) lk_J2_48_32 rfl dJ2_size_1 ?_
  have e := some_e hF
  subst e
  exact x_iret hC dJ2_size_4
theorem hy_J2_size : yJ2_size.cls ≠ "java/lang/invoke/MethodHandle" ∧ yJ2_size.cls ≠ "java/lang/invoke/VarHandle" ∧ (parseMethodDescriptor yJ2_size.desc).map (fun d => d.parameters.length) = some 0 := by decide +kernel
theorem m_J2_size {Γ : zG} {l : Launch} (hfl : l.flags = flags0) {h : AH} {a0 : Nat} {r : Int32} (hF : F_J2_size h a0 = some r) : zM Γ l yJ2_size (ws_ yJ2_size cJ2_size 1 (some .int)) 0 0 [.ref a0] h (.inl (some (.int r))) h := z_of hfl (by decide) (Nat.le_of_ble_eq_true rfl) fun x hG hl hC hN hE => by subst hG; subst hl; exact w_J2_size hC hF
-- J2_elementData
def F_J2_elementData (h : AH) (a0 : Nat) (x1 : Int32) : Option Nat := gd (hK h a0 = 32) (Option.bind (hR h a0 1) fun b8 => gd (hK h b8 = 108 ∧ inb x1 (hL h b8)) (Option.bind (hR h b8 (ix x1)) fun b11 => some b11))
theorem w_J2_elementData {cx : zX} {h0 : AH} (hC : Cx cx RJ2 cJ2_elementData 2 0 0 (some (.object "java/lang/Object")) h0) {h : AH} {a0 : Nat} {x1 : Int32} {r : Nat} (hF : F_J2_elementData h a0 x1 = some r) : X cx 2 (zQ cx h0 (.inl (some (.ref r))) h) h 0 [(0, .ref a0), (1, .int x1)] [] := by
  refine x_aload_n hC dJ2_elementData_0 0 rfl ?_
  obtain ⟨g7, hF⟩ := gd_e hF
  obtain ⟨b8, e9, hF⟩ := bd_e hF
  refine x_getR (κ := 32) (k := 1) hC g7 rfl (by decide) lk_J2_9_32 rfl e9 dJ2_elementData_1 ?_
  refine x_iload_n hC dJ2_elementData_4 1 rfl ?_
  obtain ⟨g10, hF⟩ := gd_e hF
  obtain ⟨b11, e12, hF⟩ := bd_e hF
  refine x_aaldR (κ := 108) hC g10.1 rfl rfl rfl g10.2 e12 dJ2_elementData_5 ?_
  have e := some_e hF
  subst e
  exact x_aret hC (Or.inl ⟨_, rfl⟩) dJ2_elementData_6
theorem hy_J2_elementData : yJ2_elementData.cls ≠ "java/lang/invoke/MethodHandle" ∧ yJ2_elementData.cls ≠ "java/lang/invoke/VarHandle" ∧ (parseMethodDescriptor yJ2_elementData.desc).map (fun d => d.parameters.length) = some 1 := by decide +kernel
theorem m_J2_elementData {Γ : zG} {l : Launch} (hfl : l.flags = flags0) {h : AH} {a0 : Nat} {x1 : Int32} {r : Nat} (hF : F_J2_elementData h a0 x1 = some r) : zM Γ l yJ2_elementData (ws_ yJ2_elementData cJ2_elementData 2 (some (.object "java/lang/Object"))) 0 0 [.ref a0, .int x1] h (.inl (some (.ref r))) h := z_of hfl (by decide) (Nat.le_of_ble_eq_true rfl) fun x hG hl hC hN hE => by subst hG; subst hl; exact w_J2_elementData hC hF
-- J2_isEmpty
def B_J2_isEmpty_12 (h : AH)  (t0 : Int32) : Option Int32 := gd (bl t0) (some t0)
def F_J2_isEmpty (h : AH) (a0 : Nat) : Option Int32 := gd (hK h a0 = 32) (if (hI h a0 2) = 0 then B_J2_isEmpty_12 h 1 else B_J2_isEmpty_12 h 0)
theorem w_J2_isEmpty_12 {cx : zX} {h0 : AH} (hC : Cx cx RJ2 cJ2_isEmpty 1 0 0 (some .boolean) h0) {h : AH} {r : Int32}   {t0 : Int32} (hF : B_J2_isEmpty_12 h  t0 = some r) : X cx 1 (zQ cx h0 (.inl (some (.int r))) h) h 12 [] [.int t0] := by
  obtain ⟨g2, hF⟩ := gd_e hF
  have e := some_e hF
  subst e
  exact x_zret (ty := .boolean) hC (bl_n g2) dJ2_isEmpty_12
theorem w_J2_isEmpty {cx : zX} {h0 : AH} (hC : Cx cx RJ2 cJ2_isEmpty 1 0 0 (some .boolean) h0) {h : AH} {a0 : Nat} {r : Int32} (hF : F_J2_isEmpty h a0 = some r) : X cx 1 (zQ cx h0 (.inl (some (.int r))) h) h 0 [(0, .ref a0)] [] := by
  refine x_aload_n hC dJ2_isEmpty_0 0 rfl ?_
  obtain ⟨g3, hF⟩ := gd_e hF
  refine x_get (κ := 32) (k := 2) (v := .int (hI h a0 2)) hC g3 rfl (by decide) lk_J2_48_32 rfl dJ2_isEmpty_1 ?_
  refine x_if_ne (tgt := 11) hC dJ2_isEmpty_4 (by decide) (fun u4 => ?_) (fun u4 => ?_)
  · have hF := it_f u4 hF
    refine x_iconst (v := 0) hC dJ2_isEmpty_11 (by decide) ?_
    refine X.sub (lv' := []) [] rfl ?_
    exact w_J2_isEmpty_12 hC  hF
  · have hF := it_t u4 hF
    refine x_iconst (v := 1) hC dJ2_isEmpty_7 (by decide) ?_
    refine x_goto (tgt := 12) hC dJ2_isEmpty_8 (by decide) ?_
    refine X.sub (lv' := []) [] rfl ?_
    exact w_J2_isEmpty_12 hC  hF
theorem hy_J2_isEmpty : yJ2_isEmpty.cls ≠ "java/lang/invoke/MethodHandle" ∧ yJ2_isEmpty.cls ≠ "java/lang/invoke/VarHandle" ∧ (parseMethodDescriptor yJ2_isEmpty.desc).map (fun d => d.parameters.length) = some 0 := by decide +kernel
theorem m_J2_isEmpty {Γ : zG} {l : Launch} (hfl : l.flags = flags0) {h : AH} {a0 : Nat} {r : Int32} (hF : F_J2_isEmpty h a0 = some r) : zM Γ l yJ2_isEmpty (ws_ yJ2_isEmpty cJ2_isEmpty 1 (some .boolean)) 0 0 [.ref a0] h (.inl (some (.int r))) h := z_of hfl (by decide) (Nat.le_of_ble_eq_true rfl) fun x hG hl hC hN hE => by subst hG; subst hl; exact w_J2_isEmpty hC hF
-- J2_fastRemove
def B_J2_fastRemove_34 (h : AH)  (a0 : Nat) (a1 : Nat) (x3 : Int32) : Option AH := gd (hK h a0 = 32) (lh (wI h a0 2 x3) fun h18 => gd (hK h18 a1 = 108 ∧ inb x3 (hL h18 a1)) (lh (wR h18 a1 (ix x3) none) fun h21 => some h21))
def F_J2_fastRemove (h : AH) (a0 : Nat) (a1 : Nat) (x2 : Int32) : Option AH := gd (hK h a0 = 32) (gd (hK h a0 = 32) (lh (wI h a0 0 ((hI h a0 0) + 1)) fun h25 => gd (hK h25 a0 = 32) (if ((hI h25 a0 2) - 1) ≤ x2 then B_J2_fastRemove_34 h25 a0 a1 ((hI h25 a0 2) - 1) else gd (hK h25 a1 = 108 ∧ hK h25 a1 = 108) (gd (0 ≤ ((x2 + 1) : Int32).toInt ∧ 0 ≤ (x2 : Int32).toInt ∧ 0 ≤ ((((hI h25 a0 2) - 1) - x2) : Int32).toInt ∧ ix (x2 + 1) + ix (((hI h25 a0 2) - 1) - x2) ≤ hL h25 a1 ∧ ix x2 + ix (((hI h25 a0 2) - 1) - x2) ≤ hL h25 a1) (gd (∀ i, i < ix (((hI h25 a0 2) - 1) - x2) → okOb h25 (hR h25 a1 (ix (x2 + 1) + i)) = true) (lh (cpR h25 a1 a1 (ix (x2 + 1)) (ix x2) (ix (((hI h25 a0 2) - 1) - x2))) fun h31 => B_J2_fastRemove_34 h31 a0 a1 ((hI h25 a0 2) - 1)))))))
theorem w_J2_fastRemove_34 {cx : zX} {h0 : AH} (hC : Cx cx RJ2 cJ2_fastRemove 4 1 60 none h0) {h : AH} {r : AH}   {a0 : Nat} {a1 : Nat} {x3 : Int32} (hF : B_J2_fastRemove_34 h  a0 a1 x3 = some r) : X cx 4 (zQ cx h0 (.inl none) r) h 34 [(0, .ref a0), (1, .ref a1), (3, .int x3)] [] := by
  refine x_aload_n hC dJ2_fastRemove_34 1 rfl ?_
  refine x_aload_n hC dJ2_fastRemove_35 0 rfl ?_
  refine x_iload_n hC dJ2_fastRemove_36 2 rfl ?_
  refine x_dup_x1 hC dJ2_fastRemove_37 rfl rfl ?_
  obtain ⟨g17, hF⟩ := gd_e hF
  obtain ⟨h18, e19, hF⟩ := lh_e hF
  refine x_putI (κ := 32) (k := 2) hC e19 g17 rfl (by decide) lk_J2_48_32 rfl rfl dJ2_fastRemove_38 ?_
  refine x_null hC dJ2_fastRemove_41 ?_
  obtain ⟨g20, hF⟩ := gd_e hF
  obtain ⟨h21, e22, hF⟩ := lh_e hF
  refine x_aastN hC e22 g20.1 g20.2 dJ2_fastRemove_42 ?_
  have e := some_e hF
  subst e
  exact x_vret hC dJ2_fastRemove_43
theorem w_J2_fastRemove {cx : zX} {h0 : AH} (hC : Cx cx RJ2 cJ2_fastRemove 4 1 60 none h0) {h : AH} {a0 : Nat} {a1 : Nat} {x2 : Int32} {r : AH} (hF : F_J2_fastRemove h a0 a1 x2 = some r) : X cx 4 (zQ cx h0 (.inl none) r) h 0 [(0, .ref a0), (1, .ref a1), (2, .int x2)] [] := by
  refine x_aload_n hC dJ2_fastRemove_0 0 rfl ?_
  refine x_dup hC dJ2_fastRemove_1 rfl ?_
  obtain ⟨g23, hF⟩ := gd_e hF
  refine x_get (κ := 32) (k := 0) (v := .int (hI h a0 0)) hC g23 rfl (by decide) lk_J2_63_32 rfl dJ2_fastRemove_2 ?_
  refine x_iconst (v := 1) hC dJ2_fastRemove_5 (by decide) ?_
  refine x_iadd hC dJ2_fastRemove_6 ?_
  obtain ⟨g24, hF⟩ := gd_e hF
  obtain ⟨h25, e26, hF⟩ := lh_e hF
  refine x_putI (κ := 32) (k := 0) hC e26 g24 rfl (by decide) lk_J2_63_32 rfl rfl dJ2_fastRemove_7 ?_
  refine x_aload_n hC dJ2_fastRemove_10 0 rfl ?_
  obtain ⟨g27, hF⟩ := gd_e hF
  refine x_get (κ := 32) (k := 2) (v := .int (hI h25 a0 2)) hC g27 rfl (by decide) lk_J2_48_32 rfl dJ2_fastRemove_11 ?_
  refine x_iconst (v := 1) hC dJ2_fastRemove_14 (by decide) ?_
  refine x_isub hC dJ2_fastRemove_15 ?_
  refine x_dup hC dJ2_fastRemove_16 rfl ?_
  refine x_istore_n (lv' := [(0, .ref a0), (1, .ref a1), (2, .int x2), (3, .int ((hI h25 a0 2) - 1))]) hC dJ2_fastRemove_17 (by decide) [1, 2, 3, 0] rfl ?_
  refine x_iload_n hC dJ2_fastRemove_18 2 rfl ?_
  refine x_icmp_le (tgt := 34) hC dJ2_fastRemove_19 (by decide) (fun u33 => ?_) (fun u33 => ?_)
  · have hF := it_t u33 hF
    refine X.sub (lv' := [(0, .ref a0), (1, .ref a1), (3, .int ((hI h25 a0 2) - 1))]) [0, 1, 3] rfl ?_
    exact w_J2_fastRemove_34 hC  hF
  · have hF := it_f u33 hF
    refine x_aload_n hC dJ2_fastRemove_22 1 rfl ?_
    refine x_iload_n hC dJ2_fastRemove_23 2 rfl ?_
    refine x_iconst (v := 1) hC dJ2_fastRemove_24 (by decide) ?_
    refine x_iadd hC dJ2_fastRemove_25 ?_
    refine x_aload_n hC dJ2_fastRemove_26 1 rfl ?_
    refine x_iload_n hC dJ2_fastRemove_27 2 rfl ?_
    refine x_iload_n hC dJ2_fastRemove_28 3 rfl ?_
    refine x_iload_n hC dJ2_fastRemove_29 2 rfl ?_
    refine x_isub hC dJ2_fastRemove_30 ?_
    obtain ⟨g28, hF⟩ := gd_e hF
    obtain ⟨g29, hF⟩ := gd_e hF
    obtain ⟨g30, hF⟩ := gd_e hF
    obtain ⟨h31, e32, hF⟩ := lh_e hF
    refine x_copyR (κ := 108) (st := []) hC e32 g28 rfl g29 (okOb_e g30) q791 q719 q718 q117 (Nat.le_of_ble_eq_true rfl) (Nat.le_of_ble_eq_true rfl) dJ2_fastRemove_31 ?_
    refine X.sub (lv' := [(0, .ref a0), (1, .ref a1), (3, .int ((hI h25 a0 2) - 1))]) [0, 1, 3] rfl ?_
    exact w_J2_fastRemove_34 hC  hF
theorem hy_J2_fastRemove : yJ2_fastRemove.cls ≠ "java/lang/invoke/MethodHandle" ∧ yJ2_fastRemove.cls ≠ "java/lang/invoke/VarHandle" ∧ (parseMethodDescriptor yJ2_fastRemove.desc).map (fun d => d.parameters.length) = some 2 := by decide +kernel
theorem m_J2_fastRemove {Γ : zG} {l : Launch} (hfl : l.flags = flags0) {h : AH} {a0 : Nat} {a1 : Nat} {x2 : Int32} {r : AH} (hF : F_J2_fastRemove h a0 a1 x2 = some r) : zM Γ l yJ2_fastRemove (ws_ yJ2_fastRemove cJ2_fastRemove 4 none) 1 60 [.ref a0, .ref a1, .int x2] h (.inl none) r := z_of hfl (by decide) (Nat.le_of_ble_eq_true rfl) fun x hG hl hC hN hE => by subst hG; subst hl; exact w_J2_fastRemove hC hF
-- J8_newLength
def B_J8_newLength_21 (h : AH)  (x0 : Int32) (x1 : Int32) : Option Int32 := none
def F_J8_newLength (h : AH) (x0 : Int32) (x1 : Int32) (x2 : Int32) : Option Int32 := if (x0 + (imax x1 x2)) ≤ 0 then B_J8_newLength_21 h x0 x1 else if 2147483639 < (x0 + (imax x1 x2)) then B_J8_newLength_21 h x0 x1 else some (x0 + (imax x1 x2))
theorem w_J8_newLength_21 {cx : zX} {h0 : AH} (hC : Cx cx RJ8 cJ8_newLength 4 1 21 (some .int) h0) {h : AH} {r : Int32}   {x0 : Int32} {x1 : Int32} (hF : B_J8_newLength_21 h  x0 x1 = some r) : X cx 4 (zQ cx h0 (.inl (some (.int r))) h) h 21 [(0, .int x0), (1, .int x1)] [] := by
  refine x_iload_n hC dJ8_newLength_21 0 rfl ?_
  refine x_iload_n hC dJ8_newLength_22 1 rfl ?_
  cases hF
theorem w_J8_newLength {cx : zX} {h0 : AH} (hC : Cx cx RJ8 cJ8_newLength 4 1 21 (some .int) h0) {h : AH} {x0 : Int32} {x1 : Int32} {x2 : Int32} {r : Int32} (hF : F_J8_newLength h x0 x1 x2 = some r) : X cx 4 (zQ cx h0 (.inl (some (.int r))) h) h 0 [(0, .int x0), (1, .int x1), (2, .int x2)] [] := by
  refine x_iload_n hC dJ8_newLength_0 0 rfl ?_
  refine x_iload_n hC dJ8_newLength_1 1 rfl ?_
  refine x_iload_n hC dJ8_newLength_2 2 rfl ?_
  refine x_mmax (st := [.int x0]) hC q664 q665 q115 q666 (Nat.le_of_ble_eq_true rfl) (Nat.le_of_ble_eq_true rfl) dJ8_newLength_3 ?_
  refine x_iadd hC dJ8_newLength_6 ?_
  refine x_istore_n (lv' := [(0, .int x0), (1, .int x1), (2, .int x2), (3, .int (x0 + (imax x1 x2)))]) hC dJ8_newLength_7 (by decide) [1, 2, 3, 0] rfl ?_
  refine x_iconst (v := 0) hC dJ8_newLength_8 (by decide) ?_
  refine x_iload_n hC dJ8_newLength_9 3 rfl ?_
  refine x_icmp_ge (tgt := 21) hC dJ8_newLength_10 (by decide) (fun u2 => ?_) (fun u2 => ?_)
  · have hF := it_t u2 hF
    refine X.sub (lv' := [(0, .int x0), (1, .int x1)]) [0, 1] rfl ?_
    exact w_J8_newLength_21 hC  hF
  · have hF := it_f u2 hF
    refine x_iload_n hC dJ8_newLength_13 3 rfl ?_
    refine x_ldc (v := 2147483639) hC q667 dJ8_newLength_14 ?_
    refine x_icmp_gt (tgt := 21) hC dJ8_newLength_16 (by decide) (fun u1 => ?_) (fun u1 => ?_)
    · have hF := it_t u1 hF
      refine X.sub (lv' := [(0, .int x0), (1, .int x1)]) [0, 1] rfl ?_
      exact w_J8_newLength_21 hC  hF
    · have hF := it_f u1 hF
      refine x_iload_n hC dJ8_newLength_19 3 rfl ?_
      have e := some_e hF
      subst e
      exact x_iret hC dJ8_newLength_20
theorem hy_J8_newLength : yJ8_newLength.cls ≠ "java/lang/invoke/MethodHandle" ∧ yJ8_newLength.cls ≠ "java/lang/invoke/VarHandle" ∧ (parseMethodDescriptor yJ8_newLength.desc).map (fun d => d.parameters.length) = some 3 := by decide +kernel
theorem m_J8_newLength {Γ : zG} {l : Launch} (hfl : l.flags = flags0) {h : AH} {x0 : Int32} {x1 : Int32} {x2 : Int32} {r : Int32} (hF : F_J8_newLength h x0 x1 x2 = some r) : zM Γ l yJ8_newLength (ws_ yJ8_newLength cJ8_newLength 4 (some .int)) 1 21 [.int x0, .int x1, .int x2] h (.inl (some (.int r))) h := z_of hfl (by decide) (Nat.le_of_ble_eq_true rfl) fun x hG hl hC hN hE => by subst hG; subst hl; exact w_J8_newLength hC hF
-- J8_hugeLength
def F_J8_hugeLength (h : AH) (x0 : Int32) (x1 : Int32) : Option Int32 := if 0 ≤ (x0 + x1) then if 2147483639 < (x0 + x1) then some (x0 + x1) else some 2147483639 else none
theorem w_J8_hugeLength {cx : zX} {h0 : AH} (hC : Cx cx RJ8 cJ8_hugeLength 3 0 0 (some .int) h0) {h : AH} {x0 : Int32} {x1 : Int32} {r : Int32} (hF : F_J8_hugeLength h x0 x1 = some r) : X cx 3 (zQ cx h0 (.inl (some (.int r))) h) h 0 [(0, .int x0), (1, .int x1)] [] := by
  refine x_iload_n hC dJ8_hugeLength_0 0 rfl ?_
  refine x_iload_n hC dJ8_hugeLength_1 1 rfl ?_
  refine x_iadd hC dJ8_hugeLength_2 ?_
  refine x_istore_n (lv' := [(0, .int x0), (1, .int x1), (2, .int (x0 + x1))]) hC dJ8_hugeLength_3 (by decide) [1, 2, 0] rfl ?_
  refine x_iload_n hC dJ8_hugeLength_4 2 rfl ?_
  refine x_if_ge (tgt := 49) hC dJ8_hugeLength_5 (by decide) (fun u2 => ?_) (fun u2 => ?_)
  · have hF := it_t u2 hF
    refine x_iload_n hC dJ8_hugeLength_49 2 rfl ?_
    refine x_ldc (v := 2147483639) hC q667 dJ8_hugeLength_50 ?_
    refine x_icmp_gt (tgt := 58) hC dJ8_hugeLength_52 (by decide) (fun u1 => ?_) (fun u1 => ?_)
    · have hF := it_t u1 hF
      refine x_iload_n hC dJ8_hugeLength_58 2 rfl ?_
      have e := some_e hF
      subst e
      exact x_iret hC dJ8_hugeLength_59
    · have hF := it_f u1 hF
      refine x_ldc (v := 2147483639) hC q667 dJ8_hugeLength_55 ?_
      have e := some_e hF
      subst e
      exact x_iret hC dJ8_hugeLength_57
  · have hF := it_f u2 hF
    cases hF
theorem hy_J8_hugeLength : yJ8_hugeLength.cls ≠ "java/lang/invoke/MethodHandle" ∧ yJ8_hugeLength.cls ≠ "java/lang/invoke/VarHandle" ∧ (parseMethodDescriptor yJ8_hugeLength.desc).map (fun d => d.parameters.length) = some 2 := by decide +kernel
theorem m_J8_hugeLength {Γ : zG} {l : Launch} (hfl : l.flags = flags0) {h : AH} {x0 : Int32} {x1 : Int32} {r : Int32} (hF : F_J8_hugeLength h x0 x1 = some r) : zM Γ l yJ8_hugeLength (ws_ yJ8_hugeLength cJ8_hugeLength 3 (some .int)) 0 0 [.int x0, .int x1] h (.inl (some (.int r))) h := z_of hfl (by decide) (Nat.le_of_ble_eq_true rfl) fun x hG hl hC hN hE => by subst hG; subst hl; exact w_J8_hugeLength hC hF
-- J10_copyOf
def F_J10_copyOf (h : AH) (a0 : Nat) (x1 : Int32) : Option (Nat × AH) := gd (hK h a0 = 108) (Option.bind (F_J10_copyOf_2 h a0 x1) fun r5 => some (r5.1, r5.2))
theorem w_J10_copyOf {cx : zX} {h0 : AH} (hC : Cx cx RJ10 cJ10_copyOf 2 2 83 (some (.array (.object "java/lang/Object"))) h0) {h : AH} {a0 : Nat} {x1 : Int32} {r : (Nat × AH)} (hF : F_J10_copyOf h a0 x1 = some r) : X cx 2 (zQ cx h0 (.inl (some (.ref r.1))) r.2) h 0 [(0, .ref a0), (1, .int x1)] [] := by
  refine x_aload_n hC dJ10_copyOf_0 0 rfl ?_
  refine x_iload_n hC dJ10_copyOf_1 1 rfl ?_
  refine x_aload_n hC dJ10_copyOf_2 0 rfl ?_
  obtain ⟨g4, hF⟩ := gd_e hF
  obtain ⟨mi, hmi⟩ := zMi_ex hC
  refine x_getC (st := [.int x1, .ref a0]) hC g4 hmi q674 q2446 q2445 q675 q709 (Nat.le_of_ble_eq_true rfl) (Nat.le_of_ble_eq_true rfl) dJ10_copyOf_3 ?_
  obtain ⟨r5, e6, hF⟩ := bd_e hF
  refine xk_S (As := [.ref a0, .int x1, .ref mi]) (st := []) hC (m_J10_copyOf_2 hC.fl hmi e6) q710 q711 q712 q116 hy_J10_copyOf_2 ⟨Nat.le_of_ble_eq_true rfl, Nat.le_of_ble_eq_true rfl⟩ (Nat.le_of_ble_eq_true rfl) rfl dJ10_copyOf_6 ?_
  have e := some_e hF
  subst e
  exact x_aret hC (Or.inr ⟨_, rfl⟩) dJ10_copyOf_9
theorem hy_J10_copyOf : yJ10_copyOf.cls ≠ "java/lang/invoke/MethodHandle" ∧ yJ10_copyOf.cls ≠ "java/lang/invoke/VarHandle" ∧ (parseMethodDescriptor yJ10_copyOf.desc).map (fun d => d.parameters.length) = some 2 := by decide +kernel
theorem m_J10_copyOf {Γ : zG} {l : Launch} (hfl : l.flags = flags0) {h : AH} {a0 : Nat} {x1 : Int32} {r : (Nat × AH)} (hF : F_J10_copyOf h a0 x1 = some r) : zM Γ l yJ10_copyOf (ws_ yJ10_copyOf cJ10_copyOf 2 (some (.array (.object "java/lang/Object")))) 2 83 [.ref a0, .int x1] h (.inl (some (.ref r.1))) r.2 := z_of hfl (by decide) (Nat.le_of_ble_eq_true rfl) fun x hG hl hC hN hE => by subst hG; subst hl; exact w_J10_copyOf hC hF
-- J12_checkIndex
def F_J12_checkIndex (h : AH) (x0 : Int32) (x1 : Int32) : Option Int32 := Option.bind (F_J13_checkIndex h x0 x1 none) fun r3 => some r3
theorem w_J12_checkIndex {cx : zX} {h0 : AH} (hC : Cx cx RJ12 cJ12_checkIndex 2 1 22 (some .int) h0) {h : AH} {x0 : Int32} {x1 : Int32} {r : Int32} (hF : F_J12_checkIndex h x0 x1 = some r) : X cx 2 (zQ cx h0 (.inl (some (.int r))) h) h 0 [(0, .int x0), (1, .int x1)] [] := by
  refine x_iload_n hC dJ12_checkIndex_0 0 rfl ?_
  refine x_iload_n hC dJ12_checkIndex_1 1 rfl ?_
  refine x_null hC dJ12_checkIndex_2 ?_
  obtain ⟨r3, e4, hF⟩ := bd_e hF
  refine xk_S (As := [.int x0, .int x1, .null]) (st := []) hC (m_J13_checkIndex hC.fl e4) q459 q460 q461 q120 hy_J13_checkIndex ⟨Nat.le_of_ble_eq_true rfl, Nat.le_of_ble_eq_true rfl⟩ (Nat.le_of_ble_eq_true rfl) rfl dJ12_checkIndex_3 ?_
  have e := some_e hF
  subst e
  exact x_iret hC dJ12_checkIndex_6
theorem hy_J12_checkIndex : yJ12_checkIndex.cls ≠ "java/lang/invoke/MethodHandle" ∧ yJ12_checkIndex.cls ≠ "java/lang/invoke/VarHandle" ∧ (parseMethodDescriptor yJ12_checkIndex.desc).map (fun d => d.parameters.length) = some 2 := by decide +kernel
theorem m_J12_checkIndex {Γ : zG} {l : Launch} (hfl : l.flags = flags0) {h : AH} {x0 : Int32} {x1 : Int32} {r : Int32} (hF : F_J12_checkIndex h x0 x1 = some r) : zM Γ l yJ12_checkIndex (ws_ yJ12_checkIndex cJ12_checkIndex 2 (some .int)) 1 22 [.int x0, .int x1] h (.inl (some (.int r))) h := z_of hfl (by decide) (Nat.le_of_ble_eq_true rfl) fun x hG hl hC hN hE => by subst hG; subst hl; exact w_J12_checkIndex hC hF
-- J14_length
def F_J14_length (h : AH) (s0 : Nat) : Option Int32 := gd (s0 < 48) (gd (s0 < 48) (gd (s0 < 48) (Option.bind (F_J14_coder h s0) fun r9 => some (((Int32.ofNat (sLen s0)) : Int32) >>> ((r9 : Int32) &&& 31)))))
theorem w_J14_length {cx : zX} {h0 : AH} (hC : Cx cx RJ14 cJ14_length 1 1 20 (some .int) h0) {h : AH} {s0 : Nat} {r : Int32} (hF : F_J14_length h s0 = some r) : X cx 1 (zQ cx h0 (.inl (some (.int r))) h) h 0 [(0, .ref (zAd cx.G s0))] [] := by
  refine x_aload_n hC dJ14_length_0 0 rfl ?_
  obtain ⟨g6, hF⟩ := gd_e hF
  refine x_sval hC g6 q2459 dJ14_length_1 ?_
  obtain ⟨g7, hF⟩ := gd_e hF
  refine x_slen hC g7 dJ14_length_4 ?_
  refine x_aload_n hC dJ14_length_5 0 rfl ?_
  obtain ⟨g8, hF⟩ := gd_e hF
  obtain ⟨r9, e10, hF⟩ := bd_e hF
  refine xk_T (As := []) (st := [.int (Int32.ofNat (sLen s0))]) hC (m_J14_coder hC.fl e10) g8 q867 q868 q869 q870 q125 hy_J14_coder ⟨Nat.le_of_ble_eq_true rfl, Nat.le_of_ble_eq_true rfl⟩ (Nat.le_of_ble_eq_true rfl) rfl dJ14_length_6 ?_
  refine x_ishr hC dJ14_length_9 ?_
  have e := some_e hF
  subst e
  exact x_iret hC dJ14_length_10
theorem hy_J14_length : yJ14_length.cls ≠ "java/lang/invoke/MethodHandle" ∧ yJ14_length.cls ≠ "java/lang/invoke/VarHandle" ∧ (parseMethodDescriptor yJ14_length.desc).map (fun d => d.parameters.length) = some 0 := by decide +kernel
theorem m_J14_length {Γ : zG} {l : Launch} (hfl : l.flags = flags0) {h : AH} {s0 : Nat} {r : Int32} (hF : F_J14_length h s0 = some r) : zM Γ l yJ14_length (ws_ yJ14_length cJ14_length 1 (some .int)) 1 20 [.ref (zAd Γ s0)] h (.inl (some (.int r))) h := z_of hfl (by decide) (Nat.le_of_ble_eq_true rfl) fun x hG hl hC hN hE => by subst hG; subst hl; exact w_J14_length hC hF
-- J14_charAt
def F_J14_charAt (h : AH) (s0 : Nat) (x1 : Int32) : Option Int32 := gd (s0 < 48) (Option.bind (F_J14_isLatin1 h s0) fun r9 => if r9 = 0 then gd (s0 < 48) (none) else gd (s0 < 48) (Option.bind (F_J15_charAt h s0 x1) fun r13 => gd (i2c r13 = r13) (some r13)))
theorem w_J14_charAt {cx : zX} {h0 : AH} (hC : Cx cx RJ14 cJ14_charAt 2 3 64 (some .char) h0) {h : AH} {s0 : Nat} {x1 : Int32} {r : Int32} (hF : F_J14_charAt h s0 x1 = some r) : X cx 2 (zQ cx h0 (.inl (some (.int r))) h) h 0 [(0, .ref (zAd cx.G s0)), (1, .int x1)] [] := by
  refine x_aload_n hC dJ14_charAt_0 0 rfl ?_
  obtain ⟨g8, hF⟩ := gd_e hF
  obtain ⟨r9, e10, hF⟩ := bd_e hF
  refine xk_T (As := []) (st := []) hC (m_J14_isLatin1 hC.fl e10) g8 q857 q858 q859 q860 q125 hy_J14_isLatin1 ⟨Nat.le_of_ble_eq_true rfl, Nat.le_of_ble_eq_true rfl⟩ (Nat.le_of_ble_eq_true rfl) rfl dJ14_charAt_1 ?_
  refine x_if_eq (tgt := 16) hC dJ14_charAt_4 (by decide) (fun u16 => ?_) (fun u16 => ?_)
  · have hF := it_t u16 hF
    refine x_aload_n hC dJ14_charAt_16 0 rfl ?_
    obtain ⟨g11, hF⟩ := gd_e hF
    refine x_sval hC g11 q2459 dJ14_charAt_17 ?_
    refine x_iload_n hC dJ14_charAt_20 1 rfl ?_
    cases hF
  · have hF := it_f u16 hF
    refine x_aload_n hC dJ14_charAt_7 0 rfl ?_
    obtain ⟨g12, hF⟩ := gd_e hF
    refine x_sval hC g12 q2459 dJ14_charAt_8 ?_
    refine x_iload_n hC dJ14_charAt_11 1 rfl ?_
    obtain ⟨r13, e14, hF⟩ := bd_e hF
    refine xk_S (As := [.ref (zAv cx.G s0), .int x1]) (st := []) hC (m_J15_charAt hC.fl e14) q994 q995 q996 q126 hy_J15_charAt ⟨Nat.le_of_ble_eq_true rfl, Nat.le_of_ble_eq_true rfl⟩ (Nat.le_of_ble_eq_true rfl) rfl dJ14_charAt_12 ?_
    obtain ⟨g15, hF⟩ := gd_e hF
    have e := some_e hF
    subst e
    exact x_zret (ty := .char) hC (by rw [← g15]; exact pk_nc _) dJ14_charAt_15
theorem hy_J14_charAt : yJ14_charAt.cls ≠ "java/lang/invoke/MethodHandle" ∧ yJ14_charAt.cls ≠ "java/lang/invoke/VarHandle" ∧ (parseMethodDescriptor yJ14_charAt.desc).map (fun d => d.parameters.length) = some 1 := by decide +kernel
theorem m_J14_charAt {Γ : zG} {l : Launch} (hfl : l.flags = flags0) {h : AH} {s0 : Nat} {x1 : Int32} {r : Int32} (hF : F_J14_charAt h s0 x1 = some r) : zM Γ l yJ14_charAt (ws_ yJ14_charAt cJ14_charAt 2 (some .char)) 3 64 [.ref (zAd Γ s0), .int x1] h (.inl (some (.int r))) h := z_of hfl (by decide) (Nat.le_of_ble_eq_true rfl) fun x hG hl hC hN hE => by subst hG; subst hl; exact w_J14_charAt hC hF
-- J15_indexOf
def F_J15_indexOf (h : AH) (w0 : Nat) (x1 : Int32) (x2 : Int32) (x3 : Int32) : Option Int32 := Option.bind (F_J15_canEncode h x1) fun r6 => if r6 = 0 then some (-1) else gd (w0 < 48) (if (imax x2 0) < (imin x3 (Int32.ofNat (sLen w0))) then Option.bind (F_J15_indexOfChar h w0 x1 (imax x2 0) (imin x3 (Int32.ofNat (sLen w0)))) fun r9 => some r9 else some (-1))
theorem w_J15_indexOf {cx : zX} {h0 : AH} (hC : Cx cx RJ15 cJ15_indexOf 4 1 25 (some .int) h0) {h : AH} {w0 : Nat} {x1 : Int32} {x2 : Int32} {x3 : Int32} {r : Int32} (hF : F_J15_indexOf h w0 x1 x2 x3 = some r) : X cx 4 (zQ cx h0 (.inl (some (.int r))) h) h 0 [(0, .ref (zAv cx.G w0)), (1, .int x1), (2, .int x2), (3, .int x3)] [] := by
  refine x_iload_n hC dJ15_indexOf_0 1 rfl ?_
  obtain ⟨r6, e7, hF⟩ := bd_e hF
  refine xk_S (As := [.int x1]) (st := []) hC (m_J15_canEncode hC.fl e7) q874 q875 q876 q126 hy_J15_canEncode ⟨Nat.le_of_ble_eq_true rfl, Nat.le_of_ble_eq_true rfl⟩ (Nat.le_of_ble_eq_true rfl) rfl dJ15_indexOf_1 ?_
  refine x_if_ne (tgt := 9) hC dJ15_indexOf_4 (by decide) (fun u12 => ?_) (fun u12 => ?_)
  · have hF := it_f u12 hF
    refine x_iload_n hC dJ15_indexOf_9 2 rfl ?_
    refine x_iconst (v := 0) hC dJ15_indexOf_10 (by decide) ?_
    refine x_mmax (st := []) hC q877 q665 q115 q666 (Nat.le_of_ble_eq_true rfl) (Nat.le_of_ble_eq_true rfl) dJ15_indexOf_11 ?_
    refine x_istore_n (lv' := [(0, .ref (zAv cx.G w0)), (1, .int x1), (2, .int (imax x2 0)), (3, .int x3)]) hC dJ15_indexOf_14 (by decide) [1, 2, 0, 3] rfl ?_
    refine x_iload_n hC dJ15_indexOf_15 3 rfl ?_
    refine x_aload_n hC dJ15_indexOf_16 0 rfl ?_
    obtain ⟨g8, hF⟩ := gd_e hF
    refine x_slen hC g8 dJ15_indexOf_17 ?_
    refine x_mmin (st := []) hC q878 q479 q115 q480 (Nat.le_of_ble_eq_true rfl) (Nat.le_of_ble_eq_true rfl) dJ15_indexOf_18 ?_
    refine x_istore_n (lv' := [(0, .ref (zAv cx.G w0)), (1, .int x1), (2, .int (imax x2 0)), (3, .int (imin x3 (Int32.ofNat (sLen w0))))]) hC dJ15_indexOf_21 (by decide) [1, 2, 3, 0] rfl ?_
    refine x_iload_n hC dJ15_indexOf_22 2 rfl ?_
    refine x_iload_n hC dJ15_indexOf_23 3 rfl ?_
    refine x_icmp_lt (tgt := 29) hC dJ15_indexOf_24 (by decide) (fun u11 => ?_) (fun u11 => ?_)
    · have hF := it_t u11 hF
      refine x_aload_n hC dJ15_indexOf_29 0 rfl ?_
      refine x_iload_n hC dJ15_indexOf_30 1 rfl ?_
      refine x_iload_n hC dJ15_indexOf_31 2 rfl ?_
      refine x_iload_n hC dJ15_indexOf_32 3 rfl ?_
      obtain ⟨r9, e10, hF⟩ := bd_e hF
      refine xk_S (As := [.ref (zAv cx.G w0), .int x1, .int (imax x2 0), .int (imin x3 (Int32.ofNat (sLen w0)))]) (st := []) hC (m_J15_indexOfChar hC.fl e10) q879 q880 q881 q126 hy_J15_indexOfChar ⟨Nat.le_of_ble_eq_true rfl, Nat.le_of_ble_eq_true rfl⟩ (Nat.le_of_ble_eq_true rfl) rfl dJ15_indexOf_33 ?_
      have e := some_e hF
      subst e
      exact x_iret hC dJ15_indexOf_36
    · have hF := it_f u11 hF
      refine x_iconst (v := (-1)) hC dJ15_indexOf_27 (by decide) ?_
      have e := some_e hF
      subst e
      exact x_iret hC dJ15_indexOf_28
  · have hF := it_t u12 hF
    refine x_iconst (v := (-1)) hC dJ15_indexOf_7 (by decide) ?_
    have e := some_e hF
    subst e
    exact x_iret hC dJ15_indexOf_8
theorem hy_J15_indexOf : yJ15_indexOf.cls ≠ "java/lang/invoke/MethodHandle" ∧ yJ15_indexOf.cls ≠ "java/lang/invoke/VarHandle" ∧ (parseMethodDescriptor yJ15_indexOf.desc).map (fun d => d.parameters.length) = some 4 := by decide +kernel
theorem m_J15_indexOf {Γ : zG} {l : Launch} (hfl : l.flags = flags0) {h : AH} {w0 : Nat} {x1 : Int32} {x2 : Int32} {x3 : Int32} {r : Int32} (hF : F_J15_indexOf h w0 x1 x2 x3 = some r) : zM Γ l yJ15_indexOf (ws_ yJ15_indexOf cJ15_indexOf 4 (some .int)) 1 25 [.ref (zAv Γ w0), .int x1, .int x2, .int x3] h (.inl (some (.int r))) h := z_of hfl (by decide) (Nat.le_of_ble_eq_true rfl) fun x hG hl hC hN hE => by subst hG; subst hl; exact w_J15_indexOf hC hF
-- J2_get
def F_J2_get (h : AH) (a0 : Nat) (x1 : Int32) : Option Nat := gd (hK h a0 = 32) (Option.bind (F_J12_checkIndex h x1 (hI h a0 2)) fun r8 => gd (hK h a0 = 32) (Option.bind (F_J2_elementData h a0 x1) fun r11 => some r11))
theorem w_J2_get {cx : zX} {h0 : AH} (hC : Cx cx RJ2 cJ2_get 2 2 43 (some (.object "java/lang/Object")) h0) {h : AH} {a0 : Nat} {x1 : Int32} {r : Nat} (hF : F_J2_get h a0 x1 = some r) : X cx 2 (zQ cx h0 (.inl (some (.ref r))) h) h 0 [(0, .ref a0), (1, .int x1)] [] := by
  refine x_iload_n hC dJ2_get_0 1 rfl ?_
  refine x_aload_n hC dJ2_get_1 0 rfl ?_
  obtain ⟨g7, hF⟩ := gd_e hF
  refine x_get (κ := 32) (k := 2) (v := .int (hI h a0 2)) hC g7 rfl (by decide) lk_J2_48_32 rfl dJ2_get_2 ?_
  obtain ⟨r8, e9, hF⟩ := bd_e hF
  refine xk_S (As := [.int x1, .int (hI h a0 2)]) (st := []) hC (m_J12_checkIndex hC.fl e9) q456 q457 q458 q119 hy_J12_checkIndex ⟨Nat.le_of_ble_eq_true rfl, Nat.le_of_ble_eq_true rfl⟩ (Nat.le_of_ble_eq_true rfl) rfl dJ2_get_5 ?_
  refine x_pop hC dJ2_get_8 rfl ?_
  refine x_aload_n hC dJ2_get_9 0 rfl ?_
  refine x_iload_n hC dJ2_get_10 1 rfl ?_
  obtain ⟨g10, hF⟩ := gd_e hF
  obtain ⟨r11, e12, hF⟩ := bd_e hF
  refine xk_V (κ := 32) (As := [.int x1]) (st := []) hC (m_J2_elementData hC.fl e12) g10 rfl q462 q463 q464 q465 q101 hy_J2_elementData ⟨Nat.le_of_ble_eq_true rfl, Nat.le_of_ble_eq_true rfl⟩ (Nat.le_of_ble_eq_true rfl) rfl dJ2_get_11 ?_
  have e := some_e hF
  subst e
  exact x_aret hC (Or.inl ⟨_, rfl⟩) dJ2_get_14
theorem hy_J2_get : yJ2_get.cls ≠ "java/lang/invoke/MethodHandle" ∧ yJ2_get.cls ≠ "java/lang/invoke/VarHandle" ∧ (parseMethodDescriptor yJ2_get.desc).map (fun d => d.parameters.length) = some 1 := by decide +kernel
theorem m_J2_get {Γ : zG} {l : Launch} (hfl : l.flags = flags0) {h : AH} {a0 : Nat} {x1 : Int32} {r : Nat} (hF : F_J2_get h a0 x1 = some r) : zM Γ l yJ2_get (ws_ yJ2_get cJ2_get 2 (some (.object "java/lang/Object"))) 2 43 [.ref a0, .int x1] h (.inl (some (.ref r))) h := z_of hfl (by decide) (Nat.le_of_ble_eq_true rfl) fun x hG hl hC hN hE => by subst hG; subst hl; exact w_J2_get hC hF
-- J2_grow_2
def B_J2_grow_2_20 (h : AH)  (a0 : Nat) (x1 : Int32) (x2 : Int32) : Option (Nat × AH) := Option.bind (F_J8_newLength h x2 (x1 - x2) ((x2 : Int32) >>> ((1 : Int32) &&& 31))) fun r26 => gd (hK h a0 = 32) (Option.bind (hR h a0 1) fun b29 => Option.bind (F_J10_copyOf h b29 r26) fun r31 => gd (hK r31.2 a0 = 32) (lh (wR r31.2 a0 1 (some r31.1)) fun h34 => some (r31.1, h34)))
def F_J2_grow_2 (h : AH) (a0 : Nat) (x1 : Int32) : Option (Nat × AH) := gd (hK h a0 = 32) (Option.bind (hR h a0 1) fun b37 => gd (hK h b37 = 108 ∨ hK h b37 = 120) (if 0 < (Int32.ofNat (hL h b37)) then B_J2_grow_2_20 h a0 x1 (Int32.ofNat (hL h b37)) else gd (hK h a0 = 32) (Option.bind (hR h a0 1) fun b41 => Option.bind (hR h 0 0) fun b43 => if b41 = b43 then gd (0 ≤ ((imax 10 x1) : Int32).toInt ∧ ix (imax 10 x1) ≤ 1000000 ∧ 1 ≤ hc h ∧ ix (imax 10 x1) ≤ hs h) (lh (nw h 108 (ix (imax 10 x1)) (ix (imax 10 x1))) fun h46 => gd (hK h46 a0 = 32) (lh (wR h46 a0 1 (some (hn h))) fun h49 => some ((hn h), h49))) else B_J2_grow_2_20 h a0 x1 (Int32.ofNat (hL h b37)))))
theorem w_J2_grow_2_20 {cx : zX} {h0 : AH} (hC : Cx cx RJ2 cJ2_grow_2 4 3 104 (some (.array (.object "java/lang/Object"))) h0) {h : AH} {r : (Nat × AH)}   {a0 : Nat} {x1 : Int32} {x2 : Int32} (hF : B_J2_grow_2_20 h  a0 x1 x2 = some r) : X cx 4 (zQ cx h0 (.inl (some (.ref r.1))) r.2) h 20 [(0, .ref a0), (1, .int x1), (2, .int x2)] [] := by
  refine x_iload_n hC dJ2_grow_2_20 2 rfl ?_
  refine x_iload_n hC dJ2_grow_2_21 1 rfl ?_
  refine x_iload_n hC dJ2_grow_2_22 2 rfl ?_
  refine x_isub hC dJ2_grow_2_23 ?_
  refine x_iload_n hC dJ2_grow_2_24 2 rfl ?_
  refine x_iconst (v := 1) hC dJ2_grow_2_25 (by decide) ?_
  refine x_ishr hC dJ2_grow_2_26 ?_
  obtain ⟨r26, e27, hF⟩ := bd_e hF
  refine xk_S (As := [.int x2, .int (x1 - x2), .int ((x2 : Int32) >>> ((1 : Int32) &&& 31))]) (st := []) hC (m_J8_newLength hC.fl e27) q661 q662 q663 q114 hy_J8_newLength ⟨Nat.le_of_ble_eq_true rfl, Nat.le_of_ble_eq_true rfl⟩ (Nat.le_of_ble_eq_true rfl) rfl dJ2_grow_2_27 ?_
  refine x_istore_n (lv' := [(0, .ref a0), (1, .int x1), (2, .int x2), (3, .int r26)]) hC dJ2_grow_2_30 (by decide) [1, 2, 3, 0] rfl ?_
  refine x_aload_n hC dJ2_grow_2_31 0 rfl ?_
  refine x_aload_n hC dJ2_grow_2_32 0 rfl ?_
  obtain ⟨g28, hF⟩ := gd_e hF
  obtain ⟨b29, e30, hF⟩ := bd_e hF
  refine x_getR (κ := 32) (k := 1) hC g28 rfl (by decide) lk_J2_9_32 rfl e30 dJ2_grow_2_33 ?_
  refine x_iload_n hC dJ2_grow_2_36 3 rfl ?_
  obtain ⟨r31, e32, hF⟩ := bd_e hF
  refine xk_S (As := [.ref b29, .int r26]) (st := [.ref a0]) hC (m_J10_copyOf hC.fl e32) q671 q672 q673 q116 hy_J10_copyOf ⟨Nat.le_of_ble_eq_true rfl, Nat.le_of_ble_eq_true rfl⟩ (Nat.le_of_ble_eq_true rfl) rfl dJ2_grow_2_37 ?_
  refine x_dup_x1 hC dJ2_grow_2_40 rfl rfl ?_
  obtain ⟨g33, hF⟩ := gd_e hF
  obtain ⟨h34, e35, hF⟩ := lh_e hF
  refine x_putO (κ := 32) (k := 1) (o := (some r31.1)) hC e35 g33 rfl (by decide) lk_J2_9_32 rfl rfl rfl dJ2_grow_2_41 ?_
  have e := some_e hF
  subst e
  exact x_aret hC (Or.inr ⟨_, rfl⟩) dJ2_grow_2_44
theorem w_J2_grow_2 {cx : zX} {h0 : AH} (hC : Cx cx RJ2 cJ2_grow_2 4 3 104 (some (.array (.object "java/lang/Object"))) h0) {h : AH} {a0 : Nat} {x1 : Int32} {r : (Nat × AH)} (hF : F_J2_grow_2 h a0 x1 = some r) : X cx 4 (zQ cx h0 (.inl (some (.ref r.1))) r.2) h 0 [(0, .ref a0), (1, .int x1)] [] := by
  refine x_aload_n hC dJ2_grow_2_0 0 rfl ?_
  obtain ⟨g36, hF⟩ := gd_e hF
  obtain ⟨b37, e38, hF⟩ := bd_e hF
  refine x_getR (κ := 32) (k := 1) hC g36 rfl (by decide) lk_J2_9_32 rfl e38 dJ2_grow_2_1 ?_
  obtain ⟨g39, hF⟩ := gd_e hF
  refine x_alen2 hC g39 dJ2_grow_2_4 ?_
  refine x_istore_n (lv' := [(0, .ref a0), (1, .int x1), (2, .int (Int32.ofNat (hL h b37)))]) hC dJ2_grow_2_5 (by decide) [1, 2, 0] rfl ?_
  refine x_iload_n hC dJ2_grow_2_6 2 rfl ?_
  refine x_if_gt (tgt := 20) hC dJ2_grow_2_7 (by decide) (fun u52 => ?_) (fun u52 => ?_)
  · have hF := it_t u52 hF
    exact w_J2_grow_2_20 hC  hF
  · have hF := it_f u52 hF
    refine x_aload_n hC dJ2_grow_2_10 0 rfl ?_
    obtain ⟨g40, hF⟩ := gd_e hF
    obtain ⟨b41, e42, hF⟩ := bd_e hF
    refine x_getR (κ := 32) (k := 1) hC g40 rfl (by decide) lk_J2_9_32 rfl e42 dJ2_grow_2_11 ?_
    obtain ⟨b43, e44, hF⟩ := bd_e hF
    refine x_gets (j := 0) (v := .ref b43) hC rfl q172 (by rw [e44]; rfl) dJ2_grow_2_14 ?_
    refine x_acmp_eq (tgt := 45) hC dJ2_grow_2_17 (by decide) (fun u51 => ?_) (fun u51 => ?_)
    · have hF := it_t u51 hF
      refine x_aload_n hC dJ2_grow_2_45 0 rfl ?_
      refine x_bipush (v := 10) hC dJ2_grow_2_46 (by decide) ?_
      refine x_iload_n hC dJ2_grow_2_48 1 rfl ?_
      refine x_mmax (st := [.ref a0]) hC q720 q665 q115 q666 (Nat.le_of_ble_eq_true rfl) (Nat.le_of_ble_eq_true rfl) dJ2_grow_2_49 ?_
      obtain ⟨g45, hF⟩ := gd_e hF
      obtain ⟨h46, e47, hF⟩ := lh_e hF
      refine x_anewE (κ := 108) hC e47 rfl rfl q721 q714 g45 dJ2_grow_2_52 ?_
      refine x_dup_x1 hC dJ2_grow_2_55 rfl rfl ?_
      obtain ⟨g48, hF⟩ := gd_e hF
      obtain ⟨h49, e50, hF⟩ := lh_e hF
      refine x_putO (κ := 32) (k := 1) (o := (some (hn h))) hC e50 g48 rfl (by decide) lk_J2_9_32 rfl rfl rfl dJ2_grow_2_56 ?_
      have e := some_e hF
      subst e
      exact x_aret hC (Or.inr ⟨_, rfl⟩) dJ2_grow_2_59
    · have hF := it_f u51 hF
      exact w_J2_grow_2_20 hC  hF
theorem hy_J2_grow_2 : yJ2_grow_2.cls ≠ "java/lang/invoke/MethodHandle" ∧ yJ2_grow_2.cls ≠ "java/lang/invoke/VarHandle" ∧ (parseMethodDescriptor yJ2_grow_2.desc).map (fun d => d.parameters.length) = some 1 := by decide +kernel
theorem m_J2_grow_2 {Γ : zG} {l : Launch} (hfl : l.flags = flags0) {h : AH} {a0 : Nat} {x1 : Int32} {r : (Nat × AH)} (hF : F_J2_grow_2 h a0 x1 = some r) : zM Γ l yJ2_grow_2 (ws_ yJ2_grow_2 cJ2_grow_2 4 (some (.array (.object "java/lang/Object")))) 3 104 [.ref a0, .int x1] h (.inl (some (.ref r.1))) r.2 := z_of hfl (by decide) (Nat.le_of_ble_eq_true rfl) fun x hG hl hC hN hE => by subst hG; subst hl; exact w_J2_grow_2 hC hF
-- J2_remove
def F_J2_remove (h : AH) (a0 : Nat) (x1 : Int32) : Option (Nat × AH) := gd (hK h a0 = 32) (Option.bind (F_J12_checkIndex h x1 (hI h a0 2)) fun r14 => gd (hK h a0 = 32) (Option.bind (hR h a0 1) fun b17 => gd (hK h b17 = 108 ∧ inb x1 (hL h b17)) (Option.bind (hR h b17 (ix x1)) fun b20 => gd (hK h a0 = 32) (Option.bind (F_J2_fastRemove h a0 b17 x1) fun r23 => some (b20, r23)))))
theorem w_J2_remove {cx : zX} {h0 : AH} (hC : Cx cx RJ2 cJ2_remove 4 2 83 (some (.object "java/lang/Object")) h0) {h : AH} {a0 : Nat} {x1 : Int32} {r : (Nat × AH)} (hF : F_J2_remove h a0 x1 = some r) : X cx 4 (zQ cx h0 (.inl (some (.ref r.1))) r.2) h 0 [(0, .ref a0), (1, .int x1)] [] := by
  refine x_iload_n hC dJ2_remove_0 1 rfl ?_
  refine x_aload_n hC dJ2_remove_1 0 rfl ?_
  obtain ⟨g13, hF⟩ := gd_e hF
  refine x_get (κ := 32) (k := 2) (v := .int (hI h a0 2)) hC g13 rfl (by decide) lk_J2_48_32 rfl dJ2_remove_2 ?_
  obtain ⟨r14, e15, hF⟩ := bd_e hF
  refine xk_S (As := [.int x1, .int (hI h a0 2)]) (st := []) hC (m_J12_checkIndex hC.fl e15) q456 q457 q458 q119 hy_J12_checkIndex ⟨Nat.le_of_ble_eq_true rfl, Nat.le_of_ble_eq_true rfl⟩ (Nat.le_of_ble_eq_true rfl) rfl dJ2_remove_5 ?_
  refine x_pop hC dJ2_remove_8 rfl ?_
  refine x_aload_n hC dJ2_remove_9 0 rfl ?_
  obtain ⟨g16, hF⟩ := gd_e hF
  obtain ⟨b17, e18, hF⟩ := bd_e hF
  refine x_getR (κ := 32) (k := 1) hC g16 rfl (by decide) lk_J2_9_32 rfl e18 dJ2_remove_10 ?_
  refine x_astore_n (lv' := [(0, .ref a0), (1, .int x1), (2, .ref b17)]) hC dJ2_remove_13 (by decide) [1, 2, 0] rfl ?_
  refine x_aload_n hC dJ2_remove_14 2 rfl ?_
  refine x_iload_n hC dJ2_remove_15 1 rfl ?_
  obtain ⟨g19, hF⟩ := gd_e hF
  obtain ⟨b20, e21, hF⟩ := bd_e hF
  refine x_aaldR (κ := 108) hC g19.1 rfl rfl rfl g19.2 e21 dJ2_remove_16 ?_
  refine x_astore_n (lv' := [(0, .ref a0), (1, .int x1), (2, .ref b17), (3, .ref b20)]) hC dJ2_remove_17 (by decide) [1, 2, 3, 0] rfl ?_
  refine x_aload_n hC dJ2_remove_18 0 rfl ?_
  refine x_aload_n hC dJ2_remove_19 2 rfl ?_
  refine x_iload_n hC dJ2_remove_20 1 rfl ?_
  obtain ⟨g22, hF⟩ := gd_e hF
  obtain ⟨r23, e24, hF⟩ := bd_e hF
  refine xk_V (κ := 32) (As := [.ref b17, .int x1]) (st := []) hC (m_J2_fastRemove hC.fl e24) g22 rfl q787 q789 qs9 q790 q101 hy_J2_fastRemove ⟨Nat.le_of_ble_eq_true rfl, Nat.le_of_ble_eq_true rfl⟩ (Nat.le_of_ble_eq_true rfl) rfl dJ2_remove_21 ?_
  refine x_aload_n hC dJ2_remove_24 3 rfl ?_
  have e := some_e hF
  subst e
  exact x_aret hC (Or.inl ⟨_, rfl⟩) dJ2_remove_25
theorem hy_J2_remove : yJ2_remove.cls ≠ "java/lang/invoke/MethodHandle" ∧ yJ2_remove.cls ≠ "java/lang/invoke/VarHandle" ∧ (parseMethodDescriptor yJ2_remove.desc).map (fun d => d.parameters.length) = some 1 := by decide +kernel
theorem m_J2_remove {Γ : zG} {l : Launch} (hfl : l.flags = flags0) {h : AH} {a0 : Nat} {x1 : Int32} {r : (Nat × AH)} (hF : F_J2_remove h a0 x1 = some r) : zM Γ l yJ2_remove (ws_ yJ2_remove cJ2_remove 4 (some (.object "java/lang/Object"))) 2 83 [.ref a0, .int x1] h (.inl (some (.ref r.1))) r.2 := z_of hfl (by decide) (Nat.le_of_ble_eq_true rfl) fun x hG hl hC hN hE => by subst hG; subst hl; exact w_J2_remove hC hF
-- J14_indexOf_2
def F_J14_indexOf_2 (h : AH) (s0 : Nat) (x1 : Int32) (x2 : Int32) : Option Int32 := gd (s0 < 48) (Option.bind (F_J14_isLatin1 h s0) fun r15 => if r15 = 0 then gd (s0 < 48) (gd (s0 < 48) (Option.bind (F_J14_length h s0) fun r19 => none)) else gd (s0 < 48) (gd (s0 < 48) (Option.bind (F_J14_length h s0) fun r23 => Option.bind (F_J15_indexOf h s0 x1 x2 r23) fun r25 => some r25)))
theorem w_J14_indexOf_2 {cx : zX} {h0 : AH} (hC : Cx cx RJ14 cJ14_indexOf_2 3 2 48 (some .int) h0) {h : AH} {s0 : Nat} {x1 : Int32} {x2 : Int32} {r : Int32} (hF : F_J14_indexOf_2 h s0 x1 x2 = some r) : X cx 3 (zQ cx h0 (.inl (some (.int r))) h) h 0 [(0, .ref (zAd cx.G s0)), (1, .int x1), (2, .int x2)] [] := by
  refine x_aload_n hC dJ14_indexOf_2_0 0 rfl ?_
  obtain ⟨g14, hF⟩ := gd_e hF
  obtain ⟨r15, e16, hF⟩ := bd_e hF
  refine xk_T (As := []) (st := []) hC (m_J14_isLatin1 hC.fl e16) g14 q857 q858 q859 q860 q125 hy_J14_isLatin1 ⟨Nat.le_of_ble_eq_true rfl, Nat.le_of_ble_eq_true rfl⟩ (Nat.le_of_ble_eq_true rfl) rfl dJ14_indexOf_2_1 ?_
  refine x_if_eq (tgt := 23) hC dJ14_indexOf_2_4 (by decide) (fun u27 => ?_) (fun u27 => ?_)
  · have hF := it_t u27 hF
    refine x_aload_n hC dJ14_indexOf_2_23 0 rfl ?_
    obtain ⟨g17, hF⟩ := gd_e hF
    refine x_sval hC g17 q2459 dJ14_indexOf_2_24 ?_
    refine x_iload_n hC dJ14_indexOf_2_27 1 rfl ?_
    refine x_iload_n hC dJ14_indexOf_2_28 2 rfl ?_
    refine x_aload_n hC dJ14_indexOf_2_29 0 rfl ?_
    obtain ⟨g18, hF⟩ := gd_e hF
    obtain ⟨r19, e20, hF⟩ := bd_e hF
    refine xk_T (As := []) (st := [.int x2, .int x1, .ref (zAv cx.G s0)]) hC (m_J14_length hC.fl e20) g18 q863 q864 q865 q866 q125 hy_J14_length ⟨Nat.le_of_ble_eq_true rfl, Nat.le_of_ble_eq_true rfl⟩ (Nat.le_of_ble_eq_true rfl) rfl dJ14_indexOf_2_30 ?_
    cases hF
  · have hF := it_f u27 hF
    refine x_aload_n hC dJ14_indexOf_2_7 0 rfl ?_
    obtain ⟨g21, hF⟩ := gd_e hF
    refine x_sval hC g21 q2459 dJ14_indexOf_2_8 ?_
    refine x_iload_n hC dJ14_indexOf_2_11 1 rfl ?_
    refine x_iload_n hC dJ14_indexOf_2_12 2 rfl ?_
    refine x_aload_n hC dJ14_indexOf_2_13 0 rfl ?_
    obtain ⟨g22, hF⟩ := gd_e hF
    obtain ⟨r23, e24, hF⟩ := bd_e hF
    refine xk_T (As := []) (st := [.int x2, .int x1, .ref (zAv cx.G s0)]) hC (m_J14_length hC.fl e24) g22 q863 q864 q865 q866 q125 hy_J14_length ⟨Nat.le_of_ble_eq_true rfl, Nat.le_of_ble_eq_true rfl⟩ (Nat.le_of_ble_eq_true rfl) rfl dJ14_indexOf_2_14 ?_
    obtain ⟨r25, e26, hF⟩ := bd_e hF
    refine xk_S (As := [.ref (zAv cx.G s0), .int x1, .int x2, .int r23]) (st := []) hC (m_J15_indexOf hC.fl e26) q871 q872 q873 q126 hy_J15_indexOf ⟨Nat.le_of_ble_eq_true rfl, Nat.le_of_ble_eq_true rfl⟩ (Nat.le_of_ble_eq_true rfl) rfl dJ14_indexOf_2_17 ?_
    refine x_goto (tgt := 36) hC dJ14_indexOf_2_20 (by decide) ?_
    have e := some_e hF
    subst e
    exact x_iret hC dJ14_indexOf_2_36
theorem hy_J14_indexOf_2 : yJ14_indexOf_2.cls ≠ "java/lang/invoke/MethodHandle" ∧ yJ14_indexOf_2.cls ≠ "java/lang/invoke/VarHandle" ∧ (parseMethodDescriptor yJ14_indexOf_2.desc).map (fun d => d.parameters.length) = some 2 := by decide +kernel
theorem m_J14_indexOf_2 {Γ : zG} {l : Launch} (hfl : l.flags = flags0) {h : AH} {s0 : Nat} {x1 : Int32} {x2 : Int32} {r : Int32} (hF : F_J14_indexOf_2 h s0 x1 x2 = some r) : zM Γ l yJ14_indexOf_2 (ws_ yJ14_indexOf_2 cJ14_indexOf_2 3 (some .int)) 2 48 [.ref (zAd Γ s0), .int x1, .int x2] h (.inl (some (.int r))) h := z_of hfl (by decide) (Nat.le_of_ble_eq_true rfl) fun x hG hl hC hN hE => by subst hG; subst hl; exact w_J14_indexOf_2 hC hF
-- J2_grow
def F_J2_grow (h : AH) (a0 : Nat) : Option (Nat × AH) := gd (hK h a0 = 32) (gd (hK h a0 = 32) (Option.bind (F_J2_grow_2 h a0 ((hI h a0 2) + 1)) fun r7 => some (r7.1, r7.2)))
theorem w_J2_grow {cx : zX} {h0 : AH} (hC : Cx cx RJ2 cJ2_grow 1 4 127 (some (.array (.object "java/lang/Object"))) h0) {h : AH} {a0 : Nat} {r : (Nat × AH)} (hF : F_J2_grow h a0 = some r) : X cx 1 (zQ cx h0 (.inl (some (.ref r.1))) r.2) h 0 [(0, .ref a0)] [] := by
  refine x_aload_n hC dJ2_grow_0 0 rfl ?_
  refine x_aload_n hC dJ2_grow_1 0 rfl ?_
  obtain ⟨g5, hF⟩ := gd_e hF
  refine x_get (κ := 32) (k := 2) (v := .int (hI h a0 2)) hC g5 rfl (by decide) lk_J2_48_32 rfl dJ2_grow_2 ?_
  refine x_iconst (v := 1) hC dJ2_grow_5 (by decide) ?_
  refine x_iadd hC dJ2_grow_6 ?_
  obtain ⟨g6, hF⟩ := gd_e hF
  obtain ⟨r7, e8, hF⟩ := bd_e hF
  refine xk_V (κ := 32) (As := [.int ((hI h a0 2) + 1)]) (st := []) hC (m_J2_grow_2 hC.fl e8) g6 rfl q657 q659 qs7 q660 q101 hy_J2_grow_2 ⟨Nat.le_of_ble_eq_true rfl, Nat.le_of_ble_eq_true rfl⟩ (Nat.le_of_ble_eq_true rfl) rfl dJ2_grow_7 ?_
  have e := some_e hF
  subst e
  exact x_aret hC (Or.inr ⟨_, rfl⟩) dJ2_grow_10
theorem hy_J2_grow : yJ2_grow.cls ≠ "java/lang/invoke/MethodHandle" ∧ yJ2_grow.cls ≠ "java/lang/invoke/VarHandle" ∧ (parseMethodDescriptor yJ2_grow.desc).map (fun d => d.parameters.length) = some 0 := by decide +kernel
theorem m_J2_grow {Γ : zG} {l : Launch} (hfl : l.flags = flags0) {h : AH} {a0 : Nat} {r : (Nat × AH)} (hF : F_J2_grow h a0 = some r) : zM Γ l yJ2_grow (ws_ yJ2_grow cJ2_grow 1 (some (.array (.object "java/lang/Object")))) 4 127 [.ref a0] h (.inl (some (.ref r.1))) r.2 := z_of hfl (by decide) (Nat.le_of_ble_eq_true rfl) fun x hG hl hC hN hE => by subst hG; subst hl; exact w_J2_grow hC hF
-- J14_indexOf
def F_J14_indexOf (h : AH) (s0 : Nat) (x1 : Int32) : Option Int32 := gd (s0 < 48) (Option.bind (F_J14_indexOf_2 h s0 x1 0) fun r5 => some r5)
theorem w_J14_indexOf {cx : zX} {h0 : AH} (hC : Cx cx RJ14 cJ14_indexOf 2 3 70 (some .int) h0) {h : AH} {s0 : Nat} {x1 : Int32} {r : Int32} (hF : F_J14_indexOf h s0 x1 = some r) : X cx 2 (zQ cx h0 (.inl (some (.int r))) h) h 0 [(0, .ref (zAd cx.G s0)), (1, .int x1)] [] := by
  refine x_aload_n hC dJ14_indexOf_0 0 rfl ?_
  refine x_iload_n hC dJ14_indexOf_1 1 rfl ?_
  refine x_iconst (v := 0) hC dJ14_indexOf_2 (by decide) ?_
  obtain ⟨g4, hF⟩ := gd_e hF
  obtain ⟨r5, e6, hF⟩ := bd_e hF
  refine xk_T (As := [.int x1, .int 0]) (st := []) hC (m_J14_indexOf_2 hC.fl e6) g4 q853 q854 q855 q856 q125 hy_J14_indexOf_2 ⟨Nat.le_of_ble_eq_true rfl, Nat.le_of_ble_eq_true rfl⟩ (Nat.le_of_ble_eq_true rfl) rfl dJ14_indexOf_3 ?_
  have e := some_e hF
  subst e
  exact x_iret hC dJ14_indexOf_6
theorem hy_J14_indexOf : yJ14_indexOf.cls ≠ "java/lang/invoke/MethodHandle" ∧ yJ14_indexOf.cls ≠ "java/lang/invoke/VarHandle" ∧ (parseMethodDescriptor yJ14_indexOf.desc).map (fun d => d.parameters.length) = some 1 := by decide +kernel
theorem m_J14_indexOf {Γ : zG} {l : Launch} (hfl : l.flags = flags0) {h : AH} {s0 : Nat} {x1 : Int32} {r : Int32} (hF : F_J14_indexOf h s0 x1 = some r) : zM Γ l yJ14_indexOf (ws_ yJ14_indexOf cJ14_indexOf 2 (some .int)) 3 70 [.ref (zAd Γ s0), .int x1] h (.inl (some (.int r))) h := z_of hfl (by decide) (Nat.le_of_ble_eq_true rfl) fun x hG hl hC hN hE => by subst hG; subst hl; exact w_J14_indexOf hC hF
-- J2_add_2
def B_J2_add_2_11 (h : AH)  (a0 : Nat) (a1 : Nat) (a2 : Nat) (x3 : Int32) : Option AH := gd (hK h a2 = 108 ∧ inb x3 (hL h a2)) (gd (okE (hK h a1)) (lh (wR h a2 (ix x3) (some a1)) fun h14 => gd (hK h14 a0 = 32) (lh (wI h14 a0 2 (x3 + 1)) fun h17 => some h17)))
def F_J2_add_2 (h : AH) (a0 : Nat) (a1 : Nat) (a2 : Nat) (x3 : Int32) : Option AH := gd (hK h a2 = 108 ∨ hK h a2 = 120) (if x3 = (Int32.ofNat (hL h a2)) then gd (hK h a0 = 32) (Option.bind (F_J2_grow h a0) fun r21 => B_J2_add_2_11 r21.2 a0 a1 r21.1 x3) else B_J2_add_2_11 h a0 a1 a2 x3)
theorem w_J2_add_2_11 {cx : zX} {h0 : AH} (hC : Cx cx RJ2 cJ2_add_2 4 5 147 none h0) {h : AH} {r : AH}   {a0 : Nat} {a1 : Nat} {a2 : Nat} {x3 : Int32} (hF : B_J2_add_2_11 h  a0 a1 a2 x3 = some r) : X cx 4 (zQ cx h0 (.inl none) r) h 11 [(0, .ref a0), (1, .ref a1), (2, .ref a2), (3, .int x3)] [] := by
  refine x_aload_n hC dJ2_add_2_11 2 rfl ?_
  refine x_iload_n hC dJ2_add_2_12 3 rfl ?_
  refine x_aload_n hC dJ2_add_2_13 1 rfl ?_
  obtain ⟨g12, hF⟩ := gd_e hF
  obtain ⟨g13, hF⟩ := gd_e hF
  obtain ⟨h14, e15, hF⟩ := lh_e hF
  refine x_aastO hC e15 g12.1 g13 g12.2 dJ2_add_2_14 ?_
  refine x_aload_n hC dJ2_add_2_15 0 rfl ?_
  refine x_iload_n hC dJ2_add_2_16 3 rfl ?_
  refine x_iconst (v := 1) hC dJ2_add_2_17 (by decide) ?_
  refine x_iadd hC dJ2_add_2_18 ?_
  obtain ⟨g16, hF⟩ := gd_e hF
  obtain ⟨h17, e18, hF⟩ := lh_e hF
  refine x_putI (κ := 32) (k := 2) hC e18 g16 rfl (by decide) lk_J2_48_32 rfl rfl dJ2_add_2_19 ?_
  have e := some_e hF
  subst e
  exact x_vret hC dJ2_add_2_22
theorem w_J2_add_2 {cx : zX} {h0 : AH} (hC : Cx cx RJ2 cJ2_add_2 4 5 147 none h0) {h : AH} {a0 : Nat} {a1 : Nat} {a2 : Nat} {x3 : Int32} {r : AH} (hF : F_J2_add_2 h a0 a1 a2 x3 = some r) : X cx 4 (zQ cx h0 (.inl none) r) h 0 [(0, .ref a0), (1, .ref a1), (2, .ref a2), (3, .int x3)] [] := by
  refine x_iload_n hC dJ2_add_2_0 3 rfl ?_
  refine x_aload_n hC dJ2_add_2_1 2 rfl ?_
  obtain ⟨g19, hF⟩ := gd_e hF
  refine x_alen2 hC g19 dJ2_add_2_2 ?_
  refine x_icmp_ne (tgt := 11) hC dJ2_add_2_3 (by decide) (fun u23 => ?_) (fun u23 => ?_)
  · have hF := it_f u23 hF
    exact w_J2_add_2_11 hC  hF
  · have hF := it_t u23 hF
    refine x_aload_n hC dJ2_add_2_6 0 rfl ?_
    obtain ⟨g20, hF⟩ := gd_e hF
    obtain ⟨r21, e22, hF⟩ := bd_e hF
    refine xk_V (κ := 32) (As := []) (st := []) hC (m_J2_grow hC.fl e22) g20 rfl q653 q655 qs6 q656 q101 hy_J2_grow ⟨Nat.le_of_ble_eq_true rfl, Nat.le_of_ble_eq_true rfl⟩ (Nat.le_of_ble_eq_true rfl) rfl dJ2_add_2_7 ?_
    refine x_astore_n (lv' := [(0, .ref a0), (1, .ref a1), (2, .ref r21.1), (3, .int x3)]) hC dJ2_add_2_10 (by decide) [1, 2, 0, 3] rfl ?_
    exact w_J2_add_2_11 hC  hF
theorem hy_J2_add_2 : yJ2_add_2.cls ≠ "java/lang/invoke/MethodHandle" ∧ yJ2_add_2.cls ≠ "java/lang/invoke/VarHandle" ∧ (parseMethodDescriptor yJ2_add_2.desc).map (fun d => d.parameters.length) = some 3 := by decide +kernel
theorem m_J2_add_2 {Γ : zG} {l : Launch} (hfl : l.flags = flags0) {h : AH} {a0 : Nat} {a1 : Nat} {a2 : Nat} {x3 : Int32} {r : AH} (hF : F_J2_add_2 h a0 a1 a2 x3 = some r) : zM Γ l yJ2_add_2 (ws_ yJ2_add_2 cJ2_add_2 4 none) 5 147 [.ref a0, .ref a1, .ref a2, .int x3] h (.inl none) r := z_of hfl (by decide) (Nat.le_of_ble_eq_true rfl) fun x hG hl hC hN hE => by subst hG; subst hl; exact w_J2_add_2 hC hF
-- J2_add
def F_J2_add (h : AH) (a0 : Nat) (a1 : Nat) : Option (Int32 × AH) := gd (hK h a0 = 32) (gd (hK h a0 = 32) (lh (wI h a0 0 ((hI h a0 0) + 1)) fun h14 => gd (hK h14 a0 = 32) (Option.bind (hR h14 a0 1) fun b17 => gd (hK h14 a0 = 32) (gd (hK h14 a0 = 32) (Option.bind (F_J2_add_2 h14 a0 a1 b17 (hI h14 a0 2)) fun r21 => some (1, r21))))))
theorem w_J2_add {cx : zX} {h0 : AH} (hC : Cx cx RJ2 cJ2_add 2 6 170 (some .boolean) h0) {h : AH} {a0 : Nat} {a1 : Nat} {r : (Int32 × AH)} (hF : F_J2_add h a0 a1 = some r) : X cx 2 (zQ cx h0 (.inl (some (.int r.1))) r.2) h 0 [(0, .ref a0), (1, .ref a1)] [] := by
  refine x_aload_n hC dJ2_add_0 0 rfl ?_
  refine x_dup hC dJ2_add_1 rfl ?_
  obtain ⟨g12, hF⟩ := gd_e hF
  refine x_get (κ := 32) (k := 0) (v := .int (hI h a0 0)) hC g12 rfl (by decide) lk_J2_63_32 rfl dJ2_add_2 ?_
  refine x_iconst (v := 1) hC dJ2_add_5 (by decide) ?_
  refine x_iadd hC dJ2_add_6 ?_
  obtain ⟨g13, hF⟩ := gd_e hF
  obtain ⟨h14, e15, hF⟩ := lh_e hF
  refine x_putI (κ := 32) (k := 0) hC e15 g13 rfl (by decide) lk_J2_63_32 rfl rfl dJ2_add_7 ?_
  refine x_aload_n hC dJ2_add_10 0 rfl ?_
  refine x_aload_n hC dJ2_add_11 1 rfl ?_
  refine x_aload_n hC dJ2_add_12 0 rfl ?_
  obtain ⟨g16, hF⟩ := gd_e hF
  obtain ⟨b17, e18, hF⟩ := bd_e hF
  refine x_getR (κ := 32) (k := 1) hC g16 rfl (by decide) lk_J2_9_32 rfl e18 dJ2_add_13 ?_
  refine x_aload_n hC dJ2_add_16 0 rfl ?_
  obtain ⟨g19, hF⟩ := gd_e hF
  refine x_get (κ := 32) (k := 2) (v := .int (hI h14 a0 2)) hC g19 rfl (by decide) lk_J2_48_32 rfl dJ2_add_17 ?_
  obtain ⟨g20, hF⟩ := gd_e hF
  obtain ⟨r21, e22, hF⟩ := bd_e hF
  refine xk_V (κ := 32) (As := [.ref a1, .ref b17, .int (hI h14 a0 2)]) (st := []) hC (m_J2_add_2 hC.fl e22) g20 rfl q649 q651 qs5 q652 q101 hy_J2_add_2 ⟨Nat.le_of_ble_eq_true rfl, Nat.le_of_ble_eq_true rfl⟩ (Nat.le_of_ble_eq_true rfl) rfl dJ2_add_20 ?_
  refine x_iconst (v := 1) hC dJ2_add_23 (by decide) ?_
  have e := some_e hF
  subst e
  exact x_zret (ty := .boolean) hC (bl_n (Or.inr rfl)) dJ2_add_24
theorem hy_J2_add : yJ2_add.cls ≠ "java/lang/invoke/MethodHandle" ∧ yJ2_add.cls ≠ "java/lang/invoke/VarHandle" ∧ (parseMethodDescriptor yJ2_add.desc).map (fun d => d.parameters.length) = some 1 := by decide +kernel
theorem m_J2_add {Γ : zG} {l : Launch} (hfl : l.flags = flags0) {h : AH} {a0 : Nat} {a1 : Nat} {r : (Int32 × AH)} (hF : F_J2_add h a0 a1 = some r) : zM Γ l yJ2_add (ws_ yJ2_add cJ2_add 2 (some .boolean)) 6 170 [.ref a0, .ref a1] h (.inl (some (.int r.1))) r.2 := z_of hfl (by decide) (Nat.le_of_ble_eq_true rfl) fun x hG hl hC hN hE => by subst hG; subst hl; exact w_J2_add hC hF
