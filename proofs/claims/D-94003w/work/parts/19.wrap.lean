/-! the law and its wrappers, decompiled -/
set_option maxRecDepth 100000
theorem nce_X0_1_java_util_NoSuchElementException {cx : zX} {own : String} {cc : ByteArray} {nL fr lo : Nat} {rt : Option FieldType} {h0 : AH} (hC : Cx cx own cc nL fr lo rt h0) : va_Nc (zE 1) "java/util/NoSuchElementException" cx.s := hC.nc (A := "java/lang/IllegalStateException") (by decide +kernel)
theorem nce_X0_2_java_lang_IllegalStateException {cx : zX} {own : String} {cc : ByteArray} {nL fr lo : Nat} {rt : Option FieldType} {h0 : AH} (hC : Cx cx own cc nL fr lo rt h0) : va_Nc (zE 2) "java/lang/IllegalStateException" cx.s := hC.nc (A := "java/lang/IllegalArgumentException") (by decide +kernel)
theorem nce_X0_2_java_util_NoSuchElementException {cx : zX} {own : String} {cc : ByteArray} {nL fr lo : Nat} {rt : Option FieldType} {h0 : AH} (hC : Cx cx own cc nL fr lo rt h0) : va_Nc (zE 2) "java/util/NoSuchElementException" cx.s := hC.nc (A := "java/lang/IllegalArgumentException") (by decide +kernel)
theorem nce_X0_4_java_lang_IllegalArgumentException {cx : zX} {own : String} {cc : ByteArray} {nL fr lo : Nat} {rt : Option FieldType} {h0 : AH} (hC : Cx cx own cc nL fr lo rt h0) : va_Nc (zE 4) "java/lang/IllegalArgumentException" cx.s := hC.nc (A := "java/lang/IndexOutOfBoundsException") (by decide +kernel)
theorem nce_X0_4_java_lang_IllegalStateException {cx : zX} {own : String} {cc : ByteArray} {nL fr lo : Nat} {rt : Option FieldType} {h0 : AH} (hC : Cx cx own cc nL fr lo rt h0) : va_Nc (zE 4) "java/lang/IllegalStateException" cx.s := hC.nc (A := "java/lang/IndexOutOfBoundsException") (by decide +kernel)
theorem nce_X0_4_java_util_NoSuchElementException {cx : zX} {own : String} {cc : ByteArray} {nL fr lo : Nat} {rt : Option FieldType} {h0 : AH} (hC : Cx cx own cc nL fr lo rt h0) : va_Nc (zE 4) "java/util/NoSuchElementException" cx.s := hC.nc (A := "java/lang/IndexOutOfBoundsException") (by decide +kernel)
-- X0_level
def B_X0_level_12 (h : AH)  (t0 : Nat) : Option (Int32 × AH) := some (1, h)
def F_X0_level (h : AH) (a0 : Nat) (x1 : Int32) (a2 : Nat) : Option (Int32 × AH) := gd (hK h a0 = 1) (ec (F_X1_level h a0 x1) (fun v11 h12 => gd (hK h12 a2 = 102 ∧ inb 0 (hL h12 a2)) (lh (wJ h12 a2 (ix 0) (Int32.toInt64 v11)) fun h17 => some (0, h17))) (fun E13 q_14 h12 => if E13 = 2 then B_X0_level_12 h12 q_14 else none))
theorem w_X0_level_12 {cx : zX} {h0 : AH} (hC : Cx cx RX0 cX0_level 4 8 131 (some .int) h0) (hE : cx.c.exceptionTable.toList = tableOf [(0, 9, 12, 15)]) {h : AH} {r : (Int32 × AH)}   {t0 : Nat} (hF : B_X0_level_12 h  t0 = some r) : X cx 4 (zQ cx h0 (.inl (some (.int r.1))) r.2) h 12 [] [.ref t0] := by
  refine x_astore_n (lv' := [(3, .ref t0)]) hC dX0_level_12 (by decide) [0] rfl ?_
  refine x_iconst (v := 1) hC dX0_level_13 (by decide) ?_
  have e := some_e hF
  subst e
  exact x_iret hC dX0_level_14
theorem w_X0_level {cx : zX} {h0 : AH} (hC : Cx cx RX0 cX0_level 4 8 131 (some .int) h0) (hE : cx.c.exceptionTable.toList = tableOf [(0, 9, 12, 15)]) {h : AH} {a0 : Nat} {x1 : Int32} {a2 : Nat} {r : (Int32 × AH)} (hF : F_X0_level h a0 x1 a2 = some r) : X cx 4 (zQ cx h0 (.inl (some (.int r.1))) r.2) h 0 [(0, .ref a0), (1, .int x1), (2, .ref a2)] [] := by
  refine x_aload_n hC dX0_level_0 2 rfl ?_
  refine x_iconst (v := 0) hC dX0_level_1 (by decide) ?_
  refine x_aload_n hC dX0_level_2 0 rfl ?_
  refine x_iload_n hC dX0_level_3 1 rfl ?_
  obtain ⟨g10, hF⟩ := gd_e hF
  rcases ec_e hF with ⟨v11, h12, e15, hF⟩ | ⟨E13, q_14, h12, e15, hF⟩
  · refine xk_V (κ := 1) (As := [.int x1]) (st := [.int 0, .ref a2]) hC (m_X1_level hC.fl e15) g10 rfl q1494 q1495 q1496 q1497 q97 hy_X1_level ⟨Nat.le_of_ble_eq_true rfl, Nat.le_of_ble_eq_true rfl⟩ (Nat.le_of_ble_eq_true rfl) rfl dX0_level_4 ?_
    refine x_i2l hC dX0_level_7 ?_
    obtain ⟨g16, hF⟩ := gd_e hF
    obtain ⟨h17, e18, hF⟩ := lh_e hF
    refine x_lastE hC e18 g16.1 g16.2 dX0_level_8 ?_
    refine x_goto (tgt := 15) hC dX0_level_9 (by decide) ?_
    refine x_iconst (v := 0) hC dX0_level_15 (by decide) ?_
    have e := some_e hF
    subst e
    exact x_iret hC dX0_level_16
  · refine xk_V (κ := 1) (As := [.int x1]) (st := [.int 0, .ref a2]) hC (mx_X1_level hC.fl e15) g10 rfl q1494 q1495 q1496 q1497 q97 hy_X1_level ⟨Nat.le_of_ble_eq_true rfl, Nat.le_of_ble_eq_true rfl⟩ (Nat.le_of_ble_eq_true rfl) rfl dX0_level_4 ?_
    by_cases u19 : E13 = 2
    · have hF := it_t u19 hF
      subst u19
      refine x_catch (E := zE 2) hC [] ⟨0, 9, 12, 15⟩ [] (hE.trans rfl) (fun _ h => absurd h List.not_mem_nil) (by decide) (by decide) q486 q590 ?_
      refine X.sub (lv' := []) [] rfl ?_
      exact w_X0_level_12 hC hE  hF
    have hF := it_f u19 hF
    cases hF
theorem hy_X0_level : yX0_level.cls ≠ "java/lang/invoke/MethodHandle" ∧ yX0_level.cls ≠ "java/lang/invoke/VarHandle" ∧ (parseMethodDescriptor yX0_level.desc).map (fun d => d.parameters.length) = some 3 := by decide +kernel
theorem m_X0_level {Γ : zG} {l : Launch} (hfl : l.flags = flags0) {h : AH} {a0 : Nat} {x1 : Int32} {a2 : Nat} {r : (Int32 × AH)} (hF : F_X0_level h a0 x1 a2 = some r) : zM Γ l yX0_level (wsW_ yX0_level cX0_level 4 (some .int) [(0, 9, 12, 15)]) 8 131 [.ref a0, .int x1, .ref a2] h (.inl (some (.int r.1))) r.2 := z_ofH hfl (by decide) (Nat.le_of_ble_eq_true rfl) fun x hG hl hC hN hE => by subst hG; subst hl; exact w_X0_level hC hE hF
-- X0_tray
def B_X0_tray_14 (h : AH)  (t0 : Nat) : Option (Int32 × AH) := some (2, h)
def B_X0_tray_10 (h : AH)  (t0 : Nat) : Option (Int32 × AH) := some (1, h)
def F_X0_tray (h : AH) (a0 : Nat) (x1 : Int32) (x2 : Int32) (x3 : Int32) : Option (Int32 × AH) := gd (hK h a0 = 1) (ec (F_X1_tray h a0 x1 x2 x3) (fun _ h9 => some (0, h9)) (fun E10 q_11 h9 => if E10 = 2 then B_X0_tray_14 h9 q_11 else if E10 = 3 then B_X0_tray_10 h9 q_11 else none))
theorem w_X0_tray_14 {cx : zX} {h0 : AH} (hC : Cx cx RX0 cX0_tray 5 10 10307 (some .int) h0) (hE : cx.c.exceptionTable.toList = tableOf [(0, 7, 10, 21), (0, 7, 14, 15)]) {h : AH} {r : (Int32 × AH)}   {t0 : Nat} (hF : B_X0_tray_14 h  t0 = some r) : X cx 5 (zQ cx h0 (.inl (some (.int r.1))) r.2) h 14 [] [.ref t0] := by
  refine x_astore (lv' := [(4, .ref t0)]) hC dX0_tray_14 (by decide) [0] rfl ?_
  refine x_iconst (v := 2) hC dX0_tray_16 (by decide) ?_
  have e := some_e hF
  subst e
  exact x_iret hC dX0_tray_17
theorem w_X0_tray_10 {cx : zX} {h0 : AH} (hC : Cx cx RX0 cX0_tray 5 10 10307 (some .int) h0) (hE : cx.c.exceptionTable.toList = tableOf [(0, 7, 10, 21), (0, 7, 14, 15)]) {h : AH} {r : (Int32 × AH)}   {t0 : Nat} (hF : B_X0_tray_10 h  t0 = some r) : X cx 5 (zQ cx h0 (.inl (some (.int r.1))) r.2) h 10 [] [.ref t0] := by
  refine x_astore (lv' := [(4, .ref t0)]) hC dX0_tray_10 (by decide) [0] rfl ?_
  refine x_iconst (v := 1) hC dX0_tray_12 (by decide) ?_
  have e := some_e hF
  subst e
  exact x_iret hC dX0_tray_13
theorem w_X0_tray {cx : zX} {h0 : AH} (hC : Cx cx RX0 cX0_tray 5 10 10307 (some .int) h0) (hE : cx.c.exceptionTable.toList = tableOf [(0, 7, 10, 21), (0, 7, 14, 15)]) {h : AH} {a0 : Nat} {x1 : Int32} {x2 : Int32} {x3 : Int32} {r : (Int32 × AH)} (hF : F_X0_tray h a0 x1 x2 x3 = some r) : X cx 5 (zQ cx h0 (.inl (some (.int r.1))) r.2) h 0 [(0, .ref a0), (1, .int x1), (2, .int x2), (3, .int x3)] [] := by
  refine x_aload_n hC dX0_tray_0 0 rfl ?_
  refine x_iload_n hC dX0_tray_1 1 rfl ?_
  refine x_iload_n hC dX0_tray_2 2 rfl ?_
  refine x_iload_n hC dX0_tray_3 3 rfl ?_
  obtain ⟨g7, hF⟩ := gd_e hF
  rcases ec_e hF with ⟨v8, h9, e12, hF⟩ | ⟨E10, q_11, h9, e12, hF⟩
  · refine xk_VW (κ := 1) (As := [.int x1, .int x2, .int x3]) (st := []) hC (m_X1_tray hC.fl e12) g7 rfl q1759 q1760 q1761 q1762 q97 hy_X1_tray ⟨Nat.le_of_ble_eq_true rfl, Nat.le_of_ble_eq_true rfl⟩ (Nat.le_of_ble_eq_true rfl) rfl dX0_tray_4 ?_
    refine x_goto (tgt := 18) hC dX0_tray_7 (by decide) ?_
    refine x_iconst (v := 0) hC dX0_tray_18 (by decide) ?_
    have e := some_e hF
    subst e
    exact x_iret hC dX0_tray_19
  · refine xk_VW (κ := 1) (As := [.int x1, .int x2, .int x3]) (st := []) hC (mx_X1_tray hC.fl e12) g7 rfl q1759 q1760 q1761 q1762 q97 hy_X1_tray ⟨Nat.le_of_ble_eq_true rfl, Nat.le_of_ble_eq_true rfl⟩ (Nat.le_of_ble_eq_true rfl) rfl dX0_tray_4 ?_
    by_cases u13 : E10 = 2
    · have hF := it_t u13 hF
      subst u13
      refine x_catch (E := zE 2) hC [⟨0, 7, 10, 21⟩] ⟨0, 7, 14, 15⟩ [] (hE.trans rfl) (List.forall_mem_cons.mpr ⟨Or.inr ⟨by decide, _, q725, nce_X0_2_java_util_NoSuchElementException hC⟩, fun _ h => absurd h List.not_mem_nil⟩) (by decide) (by decide) q486 q590 ?_
      refine X.sub (lv' := []) [] rfl ?_
      exact w_X0_tray_14 hC hE  hF
    have hF := it_f u13 hF
    by_cases u14 : E10 = 3
    · have hF := it_t u14 hF
      subst u14
      refine x_catch (E := zE 3) hC [] ⟨0, 7, 10, 21⟩ [⟨0, 7, 14, 15⟩] (hE.trans rfl) (fun _ h => absurd h List.not_mem_nil) (by decide) (by decide) q725 q739 ?_
      refine X.sub (lv' := []) [] rfl ?_
      exact w_X0_tray_10 hC hE  hF
    have hF := it_f u14 hF
    cases hF
theorem hy_X0_tray : yX0_tray.cls ≠ "java/lang/invoke/MethodHandle" ∧ yX0_tray.cls ≠ "java/lang/invoke/VarHandle" ∧ (parseMethodDescriptor yX0_tray.desc).map (fun d => d.parameters.length) = some 4 := by decide +kernel
theorem m_X0_tray {Γ : zG} {l : Launch} (hfl : l.flags = flags0) {h : AH} {a0 : Nat} {x1 : Int32} {x2 : Int32} {x3 : Int32} {r : (Int32 × AH)} (hF : F_X0_tray h a0 x1 x2 x3 = some r) : zM Γ l yX0_tray (wsW_ yX0_tray cX0_tray 5 (some .int) [(0, 7, 10, 21), (0, 7, 14, 15)]) 10 10307 [.ref a0, .int x1, .int x2, .int x3] h (.inl (some (.int r.1))) r.2 := z_ofH hfl (by decide) (Nat.le_of_ble_eq_true rfl) fun x hG hl hC hN hE => by subst hG; subst hl; exact w_X0_tray hC hE hF
-- X0_write
def B_X0_write_18 (h : AH)  (t0 : Nat) : Option (Int32 × AH) := some (2, h)
def B_X0_write_14 (h : AH)  (t0 : Nat) : Option (Int32 × AH) := some (1, h)
def B_X0_write_22 (h : AH)  (t0 : Nat) : Option (Int32 × AH) := some (3, h)
def F_X0_write (h : AH) (a0 : Nat) (x1 : Int32) (x2 : Int32) (l3 : Int64) (a5 : Nat) : Option (Int32 × AH) := gd (hK h a0 = 1) (ec (F_X1_write h a0 x1 x2 l3) (fun v11 h12 => gd (hK h12 a5 = 102 ∧ inb 0 (hL h12 a5)) (lh (wJ h12 a5 (ix 0) v11) fun h17 => some (0, h17))) (fun E13 q_14 h12 => if E13 = 1 then B_X0_write_18 h12 q_14 else if E13 = 3 then B_X0_write_14 h12 q_14 else if E13 = 4 then B_X0_write_22 h12 q_14 else none))
theorem w_X0_write_18 {cx : zX} {h0 : AH} (hC : Cx cx RX0 cX0_write 7 10 10309 (some .int) h0) (hE : cx.c.exceptionTable.toList = tableOf [(0, 11, 14, 21), (0, 11, 18, 13), (0, 11, 22, 71)]) {h : AH} {r : (Int32 × AH)}   {t0 : Nat} (hF : B_X0_write_18 h  t0 = some r) : X cx 7 (zQ cx h0 (.inl (some (.int r.1))) r.2) h 18 [] [.ref t0] := by
  refine x_astore (lv' := [(6, .ref t0)]) hC dX0_write_18 (by decide) [0] rfl ?_
  refine x_iconst (v := 2) hC dX0_write_20 (by decide) ?_
  have e := some_e hF
  subst e
  exact x_iret hC dX0_write_21
theorem w_X0_write_14 {cx : zX} {h0 : AH} (hC : Cx cx RX0 cX0_write 7 10 10309 (some .int) h0) (hE : cx.c.exceptionTable.toList = tableOf [(0, 11, 14, 21), (0, 11, 18, 13), (0, 11, 22, 71)]) {h : AH} {r : (Int32 × AH)}   {t0 : Nat} (hF : B_X0_write_14 h  t0 = some r) : X cx 7 (zQ cx h0 (.inl (some (.int r.1))) r.2) h 14 [] [.ref t0] := by
  refine x_astore (lv' := [(6, .ref t0)]) hC dX0_write_14 (by decide) [0] rfl ?_
  refine x_iconst (v := 1) hC dX0_write_16 (by decide) ?_
  have e := some_e hF
  subst e
  exact x_iret hC dX0_write_17
theorem w_X0_write_22 {cx : zX} {h0 : AH} (hC : Cx cx RX0 cX0_write 7 10 10309 (some .int) h0) (hE : cx.c.exceptionTable.toList = tableOf [(0, 11, 14, 21), (0, 11, 18, 13), (0, 11, 22, 71)]) {h : AH} {r : (Int32 × AH)}   {t0 : Nat} (hF : B_X0_write_22 h  t0 = some r) : X cx 7 (zQ cx h0 (.inl (some (.int r.1))) r.2) h 22 [] [.ref t0] := by
  refine x_astore (lv' := [(6, .ref t0)]) hC dX0_write_22 (by decide) [0] rfl ?_
  refine x_iconst (v := 3) hC dX0_write_24 (by decide) ?_
  have e := some_e hF
  subst e
  exact x_iret hC dX0_write_25
theorem w_X0_write {cx : zX} {h0 : AH} (hC : Cx cx RX0 cX0_write 7 10 10309 (some .int) h0) (hE : cx.c.exceptionTable.toList = tableOf [(0, 11, 14, 21), (0, 11, 18, 13), (0, 11, 22, 71)]) {h : AH} {a0 : Nat} {x1 : Int32} {x2 : Int32} {l3 : Int64} {a5 : Nat} {r : (Int32 × AH)} (hF : F_X0_write h a0 x1 x2 l3 a5 = some r) : X cx 7 (zQ cx h0 (.inl (some (.int r.1))) r.2) h 0 [(0, .ref a0), (1, .int x1), (2, .int x2), (3, .long l3), (5, .ref a5)] [] := by
  refine x_aload hC dX0_write_0 4 rfl ?_
  refine x_iconst (v := 0) hC dX0_write_2 (by decide) ?_
  refine x_aload_n hC dX0_write_3 0 rfl ?_
  refine x_iload_n hC dX0_write_4 1 rfl ?_
  refine x_iload_n hC dX0_write_5 2 rfl ?_
  refine x_lload_n hC dX0_write_6 3 rfl ?_
  obtain ⟨g10, hF⟩ := gd_e hF
  rcases ec_e hF with ⟨v11, h12, e15, hF⟩ | ⟨E13, q_14, h12, e15, hF⟩
  · refine xk_VW (κ := 1) (As := [.int x1, .int x2, .long l3]) (st := [.int 0, .ref a5]) hC (m_X1_write hC.fl e15) g10 rfl q1785 q1786 q1787 q1788 q97 hy_X1_write ⟨Nat.le_of_ble_eq_true rfl, Nat.le_of_ble_eq_true rfl⟩ (Nat.le_of_ble_eq_true rfl) rfl dX0_write_7 ?_
    obtain ⟨g16, hF⟩ := gd_e hF
    obtain ⟨h17, e18, hF⟩ := lh_e hF
    refine x_lastE hC e18 g16.1 g16.2 dX0_write_10 ?_
    refine x_goto (tgt := 26) hC dX0_write_11 (by decide) ?_
    refine x_iconst (v := 0) hC dX0_write_26 (by decide) ?_
    have e := some_e hF
    subst e
    exact x_iret hC dX0_write_27
  · refine xk_VW (κ := 1) (As := [.int x1, .int x2, .long l3]) (st := [.int 0, .ref a5]) hC (mx_X1_write hC.fl e15) g10 rfl q1785 q1786 q1787 q1788 q97 hy_X1_write ⟨Nat.le_of_ble_eq_true rfl, Nat.le_of_ble_eq_true rfl⟩ (Nat.le_of_ble_eq_true rfl) rfl dX0_write_7 ?_
    by_cases u19 : E13 = 1
    · have hF := it_t u19 hF
      subst u19
      refine x_catch (E := zE 1) hC [⟨0, 11, 14, 21⟩] ⟨0, 11, 18, 13⟩ [⟨0, 11, 22, 71⟩] (hE.trans rfl) (List.forall_mem_cons.mpr ⟨Or.inr ⟨by decide, _, q725, nce_X0_1_java_util_NoSuchElementException hC⟩, fun _ h => absurd h List.not_mem_nil⟩) (by decide) (by decide) q485 q500 ?_
      refine X.sub (lv' := []) [] rfl ?_
      exact w_X0_write_18 hC hE  hF
    have hF := it_f u19 hF
    by_cases u20 : E13 = 3
    · have hF := it_t u20 hF
      subst u20
      refine x_catch (E := zE 3) hC [] ⟨0, 11, 14, 21⟩ [⟨0, 11, 18, 13⟩, ⟨0, 11, 22, 71⟩] (hE.trans rfl) (fun _ h => absurd h List.not_mem_nil) (by decide) (by decide) q725 q739 ?_
      refine X.sub (lv' := []) [] rfl ?_
      exact w_X0_write_14 hC hE  hF
    have hF := it_f u20 hF
    by_cases u21 : E13 = 4
    · have hF := it_t u21 hF
      subst u21
      refine x_catch (E := zE 4) hC [⟨0, 11, 14, 21⟩, ⟨0, 11, 18, 13⟩] ⟨0, 11, 22, 71⟩ [] (hE.trans rfl) (List.forall_mem_cons.mpr ⟨Or.inr ⟨by decide, _, q725, nce_X0_4_java_util_NoSuchElementException hC⟩, List.forall_mem_cons.mpr ⟨Or.inr ⟨by decide, _, q485, nce_X0_4_java_lang_IllegalStateException hC⟩, fun _ h => absurd h List.not_mem_nil⟩⟩) (by decide) (by decide) q1501 q1550 ?_
      refine X.sub (lv' := []) [] rfl ?_
      exact w_X0_write_22 hC hE  hF
    have hF := it_f u21 hF
    cases hF
theorem hy_X0_write : yX0_write.cls ≠ "java/lang/invoke/MethodHandle" ∧ yX0_write.cls ≠ "java/lang/invoke/VarHandle" ∧ (parseMethodDescriptor yX0_write.desc).map (fun d => d.parameters.length) = some 5 := by decide +kernel
theorem m_X0_write {Γ : zG} {l : Launch} (hfl : l.flags = flags0) {h : AH} {a0 : Nat} {x1 : Int32} {x2 : Int32} {l3 : Int64} {a5 : Nat} {r : (Int32 × AH)} (hF : F_X0_write h a0 x1 x2 l3 a5 = some r) : zM Γ l yX0_write (wsW_ yX0_write cX0_write 7 (some .int) [(0, 11, 14, 21), (0, 11, 18, 13), (0, 11, 22, 71)]) 10 10309 [.ref a0, .int x1, .int x2, .long l3, .ref a5] h (.inl (some (.int r.1))) r.2 := z_ofH hfl (by decide) (Nat.le_of_ble_eq_true rfl) fun x hG hl hC hN hE => by subst hG; subst hl; exact w_X0_write hC hE hF
-- X0_late
def B_X0_late_17 (h : AH)  (t0 : Nat) : Option (Int32 × AH) := some (2, h)
def B_X0_late_13 (h : AH)  (t0 : Nat) : Option (Int32 × AH) := some (1, h)
def F_X0_late (h : AH) (a0 : Nat) (x1 : Int32) (x2 : Int32) (a3 : Nat) : Option (Int32 × AH) := gd (hK h a0 = 1) (ec (F_X1_late h a0 x1 x2) (fun v11 h12 => gd (hK h12 a3 = 102 ∧ inb 0 (hL h12 a3)) (lh (wJ h12 a3 (ix 0) (Int32.toInt64 v11)) fun h17 => some (0, h17))) (fun E13 q_14 h12 => if E13 = 2 then B_X0_late_17 h12 q_14 else if E13 = 3 then B_X0_late_13 h12 q_14 else none))
theorem w_X0_late_17 {cx : zX} {h0 : AH} (hC : Cx cx RX0 cX0_late 5 9 155 (some .int) h0) (hE : cx.c.exceptionTable.toList = tableOf [(0, 10, 13, 21), (0, 10, 17, 15)]) {h : AH} {r : (Int32 × AH)}   {t0 : Nat} (hF : B_X0_late_17 h  t0 = some r) : X cx 5 (zQ cx h0 (.inl (some (.int r.1))) r.2) h 17 [] [.ref t0] := by
  refine x_astore (lv' := [(4, .ref t0)]) hC dX0_late_17 (by decide) [0] rfl ?_
  refine x_iconst (v := 2) hC dX0_late_19 (by decide) ?_
  have e := some_e hF
  subst e
  exact x_iret hC dX0_late_20
theorem w_X0_late_13 {cx : zX} {h0 : AH} (hC : Cx cx RX0 cX0_late 5 9 155 (some .int) h0) (hE : cx.c.exceptionTable.toList = tableOf [(0, 10, 13, 21), (0, 10, 17, 15)]) {h : AH} {r : (Int32 × AH)}   {t0 : Nat} (hF : B_X0_late_13 h  t0 = some r) : X cx 5 (zQ cx h0 (.inl (some (.int r.1))) r.2) h 13 [] [.ref t0] := by
  refine x_astore (lv' := [(4, .ref t0)]) hC dX0_late_13 (by decide) [0] rfl ?_
  refine x_iconst (v := 1) hC dX0_late_15 (by decide) ?_
  have e := some_e hF
  subst e
  exact x_iret hC dX0_late_16
theorem w_X0_late {cx : zX} {h0 : AH} (hC : Cx cx RX0 cX0_late 5 9 155 (some .int) h0) (hE : cx.c.exceptionTable.toList = tableOf [(0, 10, 13, 21), (0, 10, 17, 15)]) {h : AH} {a0 : Nat} {x1 : Int32} {x2 : Int32} {a3 : Nat} {r : (Int32 × AH)} (hF : F_X0_late h a0 x1 x2 a3 = some r) : X cx 5 (zQ cx h0 (.inl (some (.int r.1))) r.2) h 0 [(0, .ref a0), (1, .int x1), (2, .int x2), (3, .ref a3)] [] := by
  refine x_aload_n hC dX0_late_0 3 rfl ?_
  refine x_iconst (v := 0) hC dX0_late_1 (by decide) ?_
  refine x_aload_n hC dX0_late_2 0 rfl ?_
  refine x_iload_n hC dX0_late_3 1 rfl ?_
  refine x_iload_n hC dX0_late_4 2 rfl ?_
  obtain ⟨g10, hF⟩ := gd_e hF
  rcases ec_e hF with ⟨v11, h12, e15, hF⟩ | ⟨E13, q_14, h12, e15, hF⟩
  · refine xk_V (κ := 1) (As := [.int x1, .int x2]) (st := [.int 0, .ref a3]) hC (m_X1_late hC.fl e15) g10 rfl q814 q815 q816 q817 q97 hy_X1_late ⟨Nat.le_of_ble_eq_true rfl, Nat.le_of_ble_eq_true rfl⟩ (Nat.le_of_ble_eq_true rfl) rfl dX0_late_5 ?_
    refine x_i2l hC dX0_late_8 ?_
    obtain ⟨g16, hF⟩ := gd_e hF
    obtain ⟨h17, e18, hF⟩ := lh_e hF
    refine x_lastE hC e18 g16.1 g16.2 dX0_late_9 ?_
    refine x_goto (tgt := 21) hC dX0_late_10 (by decide) ?_
    refine x_iconst (v := 0) hC dX0_late_21 (by decide) ?_
    have e := some_e hF
    subst e
    exact x_iret hC dX0_late_22
  · refine xk_V (κ := 1) (As := [.int x1, .int x2]) (st := [.int 0, .ref a3]) hC (mx_X1_late hC.fl e15) g10 rfl q814 q815 q816 q817 q97 hy_X1_late ⟨Nat.le_of_ble_eq_true rfl, Nat.le_of_ble_eq_true rfl⟩ (Nat.le_of_ble_eq_true rfl) rfl dX0_late_5 ?_
    by_cases u19 : E13 = 2
    · have hF := it_t u19 hF
      subst u19
      refine x_catch (E := zE 2) hC [⟨0, 10, 13, 21⟩] ⟨0, 10, 17, 15⟩ [] (hE.trans rfl) (List.forall_mem_cons.mpr ⟨Or.inr ⟨by decide, _, q725, nce_X0_2_java_util_NoSuchElementException hC⟩, fun _ h => absurd h List.not_mem_nil⟩) (by decide) (by decide) q486 q590 ?_
      refine X.sub (lv' := []) [] rfl ?_
      exact w_X0_late_17 hC hE  hF
    have hF := it_f u19 hF
    by_cases u20 : E13 = 3
    · have hF := it_t u20 hF
      subst u20
      refine x_catch (E := zE 3) hC [] ⟨0, 10, 13, 21⟩ [⟨0, 10, 17, 15⟩] (hE.trans rfl) (fun _ h => absurd h List.not_mem_nil) (by decide) (by decide) q725 q739 ?_
      refine X.sub (lv' := []) [] rfl ?_
      exact w_X0_late_13 hC hE  hF
    have hF := it_f u20 hF
    cases hF
theorem hy_X0_late : yX0_late.cls ≠ "java/lang/invoke/MethodHandle" ∧ yX0_late.cls ≠ "java/lang/invoke/VarHandle" ∧ (parseMethodDescriptor yX0_late.desc).map (fun d => d.parameters.length) = some 4 := by decide +kernel
theorem m_X0_late {Γ : zG} {l : Launch} (hfl : l.flags = flags0) {h : AH} {a0 : Nat} {x1 : Int32} {x2 : Int32} {a3 : Nat} {r : (Int32 × AH)} (hF : F_X0_late h a0 x1 x2 a3 = some r) : zM Γ l yX0_late (wsW_ yX0_late cX0_late 5 (some .int) [(0, 10, 13, 21), (0, 10, 17, 15)]) 9 155 [.ref a0, .int x1, .int x2, .ref a3] h (.inl (some (.int r.1))) r.2 := z_ofH hfl (by decide) (Nat.le_of_ble_eq_true rfl) fun x hG hl hC hN hE => by subst hG; subst hl; exact w_X0_late hC hE hF
-- X0_price
def B_X0_price_12 (h : AH)  (t0 : Nat) : Option (Int32 × AH) := some (1, h)
def F_X0_price (h : AH) (a0 : Nat) (x1 : Int32) (a2 : Nat) : Option (Int32 × AH) := gd (hK h a0 = 1) (ec (F_X1_price h a0 x1) (fun v11 h12 => gd (hK h12 a2 = 102 ∧ inb 0 (hL h12 a2)) (lh (wJ h12 a2 (ix 0) (Int32.toInt64 v11)) fun h17 => some (0, h17))) (fun E13 q_14 h12 => if E13 = 3 then B_X0_price_12 h12 q_14 else none))
theorem w_X0_price_12 {cx : zX} {h0 : AH} (hC : Cx cx RX0 cX0_price 4 9 152 (some .int) h0) (hE : cx.c.exceptionTable.toList = tableOf [(0, 9, 12, 21)]) {h : AH} {r : (Int32 × AH)}   {t0 : Nat} (hF : B_X0_price_12 h  t0 = some r) : X cx 4 (zQ cx h0 (.inl (some (.int r.1))) r.2) h 12 [] [.ref t0] := by
  refine x_astore_n (lv' := [(3, .ref t0)]) hC dX0_price_12 (by decide) [0] rfl ?_
  refine x_iconst (v := 1) hC dX0_price_13 (by decide) ?_
  have e := some_e hF
  subst e
  exact x_iret hC dX0_price_14
theorem w_X0_price {cx : zX} {h0 : AH} (hC : Cx cx RX0 cX0_price 4 9 152 (some .int) h0) (hE : cx.c.exceptionTable.toList = tableOf [(0, 9, 12, 21)]) {h : AH} {a0 : Nat} {x1 : Int32} {a2 : Nat} {r : (Int32 × AH)} (hF : F_X0_price h a0 x1 a2 = some r) : X cx 4 (zQ cx h0 (.inl (some (.int r.1))) r.2) h 0 [(0, .ref a0), (1, .int x1), (2, .ref a2)] [] := by
  refine x_aload_n hC dX0_price_0 2 rfl ?_
  refine x_iconst (v := 0) hC dX0_price_1 (by decide) ?_
  refine x_aload_n hC dX0_price_2 0 rfl ?_
  refine x_iload_n hC dX0_price_3 1 rfl ?_
  obtain ⟨g10, hF⟩ := gd_e hF
  rcases ec_e hF with ⟨v11, h12, e15, hF⟩ | ⟨E13, q_14, h12, e15, hF⟩
  · refine xk_V (κ := 1) (As := [.int x1]) (st := [.int 0, .ref a2]) hC (m_X1_price hC.fl e15) g10 rfl q1423 q1424 q1425 q1426 q97 hy_X1_price ⟨Nat.le_of_ble_eq_true rfl, Nat.le_of_ble_eq_true rfl⟩ (Nat.le_of_ble_eq_true rfl) rfl dX0_price_4 ?_
    refine x_i2l hC dX0_price_7 ?_
    obtain ⟨g16, hF⟩ := gd_e hF
    obtain ⟨h17, e18, hF⟩ := lh_e hF
    refine x_lastE hC e18 g16.1 g16.2 dX0_price_8 ?_
    refine x_goto (tgt := 15) hC dX0_price_9 (by decide) ?_
    refine x_iconst (v := 0) hC dX0_price_15 (by decide) ?_
    have e := some_e hF
    subst e
    exact x_iret hC dX0_price_16
  · refine xk_V (κ := 1) (As := [.int x1]) (st := [.int 0, .ref a2]) hC (mx_X1_price hC.fl e15) g10 rfl q1423 q1424 q1425 q1426 q97 hy_X1_price ⟨Nat.le_of_ble_eq_true rfl, Nat.le_of_ble_eq_true rfl⟩ (Nat.le_of_ble_eq_true rfl) rfl dX0_price_4 ?_
    by_cases u19 : E13 = 3
    · have hF := it_t u19 hF
      subst u19
      refine x_catch (E := zE 3) hC [] ⟨0, 9, 12, 21⟩ [] (hE.trans rfl) (fun _ h => absurd h List.not_mem_nil) (by decide) (by decide) q725 q739 ?_
      refine X.sub (lv' := []) [] rfl ?_
      exact w_X0_price_12 hC hE  hF
    have hF := it_f u19 hF
    cases hF
theorem hy_X0_price : yX0_price.cls ≠ "java/lang/invoke/MethodHandle" ∧ yX0_price.cls ≠ "java/lang/invoke/VarHandle" ∧ (parseMethodDescriptor yX0_price.desc).map (fun d => d.parameters.length) = some 3 := by decide +kernel
theorem m_X0_price {Γ : zG} {l : Launch} (hfl : l.flags = flags0) {h : AH} {a0 : Nat} {x1 : Int32} {a2 : Nat} {r : (Int32 × AH)} (hF : F_X0_price h a0 x1 a2 = some r) : zM Γ l yX0_price (wsW_ yX0_price cX0_price 4 (some .int) [(0, 9, 12, 21)]) 9 152 [.ref a0, .int x1, .ref a2] h (.inl (some (.int r.1))) r.2 := z_ofH hfl (by decide) (Nat.le_of_ble_eq_true rfl) fun x hG hl hC hN hE => by subst hG; subst hl; exact w_X0_price hC hE hF
-- X0_board
def B_X0_board_13 (h : AH)  (t0 : Nat) : Option (Int32 × AH) := some (1, h)
def F_X0_board (h : AH) (a0 : Nat) (x1 : Int32) (x2 : Int32) (a3 : Nat) : Option (Int32 × AH) := gd (hK h a0 = 1) (ec (F_X1_board h a0 x1 x2) (fun v11 h12 => gd (hK h12 a3 = 102 ∧ inb 0 (hL h12 a3)) (lh (wJ h12 a3 (ix 0) (Int32.toInt64 v11)) fun h17 => some (0, h17))) (fun E13 q_14 h12 => if E13 = 3 then B_X0_board_13 h12 q_14 else none))
theorem w_X0_board_13 {cx : zX} {h0 : AH} (hC : Cx cx RX0 cX0_board 5 9 153 (some .int) h0) (hE : cx.c.exceptionTable.toList = tableOf [(0, 10, 13, 21)]) {h : AH} {r : (Int32 × AH)}   {t0 : Nat} (hF : B_X0_board_13 h  t0 = some r) : X cx 5 (zQ cx h0 (.inl (some (.int r.1))) r.2) h 13 [] [.ref t0] := by
  refine x_astore (lv' := [(4, .ref t0)]) hC dX0_board_13 (by decide) [0] rfl ?_
  refine x_iconst (v := 1) hC dX0_board_15 (by decide) ?_
  have e := some_e hF
  subst e
  exact x_iret hC dX0_board_16
theorem w_X0_board {cx : zX} {h0 : AH} (hC : Cx cx RX0 cX0_board 5 9 153 (some .int) h0) (hE : cx.c.exceptionTable.toList = tableOf [(0, 10, 13, 21)]) {h : AH} {a0 : Nat} {x1 : Int32} {x2 : Int32} {a3 : Nat} {r : (Int32 × AH)} (hF : F_X0_board h a0 x1 x2 a3 = some r) : X cx 5 (zQ cx h0 (.inl (some (.int r.1))) r.2) h 0 [(0, .ref a0), (1, .int x1), (2, .int x2), (3, .ref a3)] [] := by
  refine x_aload_n hC dX0_board_0 3 rfl ?_
  refine x_iconst (v := 0) hC dX0_board_1 (by decide) ?_
  refine x_aload_n hC dX0_board_2 0 rfl ?_
  refine x_iload_n hC dX0_board_3 1 rfl ?_
  refine x_iload_n hC dX0_board_4 2 rfl ?_
  obtain ⟨g10, hF⟩ := gd_e hF
  rcases ec_e hF with ⟨v11, h12, e15, hF⟩ | ⟨E13, q_14, h12, e15, hF⟩
  · refine xk_V (κ := 1) (As := [.int x1, .int x2]) (st := [.int 0, .ref a3]) hC (m_X1_board hC.fl e15) g10 rfl q1430 q1431 q1432 q1433 q97 hy_X1_board ⟨Nat.le_of_ble_eq_true rfl, Nat.le_of_ble_eq_true rfl⟩ (Nat.le_of_ble_eq_true rfl) rfl dX0_board_5 ?_
    refine x_i2l hC dX0_board_8 ?_
    obtain ⟨g16, hF⟩ := gd_e hF
    obtain ⟨h17, e18, hF⟩ := lh_e hF
    refine x_lastE hC e18 g16.1 g16.2 dX0_board_9 ?_
    refine x_goto (tgt := 17) hC dX0_board_10 (by decide) ?_
    refine x_iconst (v := 0) hC dX0_board_17 (by decide) ?_
    have e := some_e hF
    subst e
    exact x_iret hC dX0_board_18
  · refine xk_V (κ := 1) (As := [.int x1, .int x2]) (st := [.int 0, .ref a3]) hC (mx_X1_board hC.fl e15) g10 rfl q1430 q1431 q1432 q1433 q97 hy_X1_board ⟨Nat.le_of_ble_eq_true rfl, Nat.le_of_ble_eq_true rfl⟩ (Nat.le_of_ble_eq_true rfl) rfl dX0_board_5 ?_
    by_cases u19 : E13 = 3
    · have hF := it_t u19 hF
      subst u19
      refine x_catch (E := zE 3) hC [] ⟨0, 10, 13, 21⟩ [] (hE.trans rfl) (fun _ h => absurd h List.not_mem_nil) (by decide) (by decide) q725 q739 ?_
      refine X.sub (lv' := []) [] rfl ?_
      exact w_X0_board_13 hC hE  hF
    have hF := it_f u19 hF
    cases hF
theorem hy_X0_board : yX0_board.cls ≠ "java/lang/invoke/MethodHandle" ∧ yX0_board.cls ≠ "java/lang/invoke/VarHandle" ∧ (parseMethodDescriptor yX0_board.desc).map (fun d => d.parameters.length) = some 4 := by decide +kernel
theorem m_X0_board {Γ : zG} {l : Launch} (hfl : l.flags = flags0) {h : AH} {a0 : Nat} {x1 : Int32} {x2 : Int32} {a3 : Nat} {r : (Int32 × AH)} (hF : F_X0_board h a0 x1 x2 a3 = some r) : zM Γ l yX0_board (wsW_ yX0_board cX0_board 5 (some .int) [(0, 10, 13, 21)]) 9 153 [.ref a0, .int x1, .int x2, .ref a3] h (.inl (some (.int r.1))) r.2 := z_ofH hfl (by decide) (Nat.le_of_ble_eq_true rfl) fun x hG hl hC hN hE => by subst hG; subst hl; exact w_X0_board hC hE hF
-- X0_passed
def B_X0_passed_18 (h : AH)  (t0 : Int64) (t1 : Int32) (t2 : Nat) : Option (Int32 × AH) := gd (hK h t2 = 102 ∧ inb t1 (hL h t2)) (lh (wJ h t2 (ix t1) t0) fun h11 => some (0, h11))
def B_X0_passed_26 (h : AH)  (t0 : Nat) : Option (Int32 × AH) := some (2, h)
def B_X0_passed_22 (h : AH)  (t0 : Nat) : Option (Int32 × AH) := some (1, h)
def F_X0_passed (h : AH) (a0 : Nat) (x1 : Int32) (x2 : Int32) (x3 : Int32) (a4 : Nat) : Option (Int32 × AH) := gd (hK h a0 = 1) (ec (F_X1_passed h a0 x1 x2 x3) (fun v14 h15 => if v14 = 0 then B_X0_passed_18 h15 0 0 a4 else B_X0_passed_18 h15 1 0 a4) (fun E16 q_17 h15 => if E16 = 2 then B_X0_passed_26 h15 q_17 else if E16 = 3 then B_X0_passed_22 h15 q_17 else none))
theorem w_X0_passed_18 {cx : zX} {h0 : AH} (hC : Cx cx RX0 cX0_passed 6 9 162 (some .int) h0) (hE : cx.c.exceptionTable.toList = tableOf [(0, 19, 22, 21), (0, 19, 26, 15)]) {h : AH} {r : (Int32 × AH)}   {t0 : Int64} {t1 : Int32} {t2 : Nat} (hF : B_X0_passed_18 h  t0 t1 t2 = some r) : X cx 6 (zQ cx h0 (.inl (some (.int r.1))) r.2) h 18 [] [.long t0, .int t1, .ref t2] := by
  obtain ⟨g10, hF⟩ := gd_e hF
  obtain ⟨h11, e12, hF⟩ := lh_e hF
  refine x_lastE hC e12 g10.1 g10.2 dX0_passed_18 ?_
  refine x_goto (tgt := 30) hC dX0_passed_19 (by decide) ?_
  refine x_iconst (v := 0) hC dX0_passed_30 (by decide) ?_
  have e := some_e hF
  subst e
  exact x_iret hC dX0_passed_31
theorem w_X0_passed_26 {cx : zX} {h0 : AH} (hC : Cx cx RX0 cX0_passed 6 9 162 (some .int) h0) (hE : cx.c.exceptionTable.toList = tableOf [(0, 19, 22, 21), (0, 19, 26, 15)]) {h : AH} {r : (Int32 × AH)}   {t0 : Nat} (hF : B_X0_passed_26 h  t0 = some r) : X cx 6 (zQ cx h0 (.inl (some (.int r.1))) r.2) h 26 [] [.ref t0] := by
  refine x_astore (lv' := [(5, .ref t0)]) hC dX0_passed_26 (by decide) [0] rfl ?_
  refine x_iconst (v := 2) hC dX0_passed_28 (by decide) ?_
  have e := some_e hF
  subst e
  exact x_iret hC dX0_passed_29
theorem w_X0_passed_22 {cx : zX} {h0 : AH} (hC : Cx cx RX0 cX0_passed 6 9 162 (some .int) h0) (hE : cx.c.exceptionTable.toList = tableOf [(0, 19, 22, 21), (0, 19, 26, 15)]) {h : AH} {r : (Int32 × AH)}   {t0 : Nat} (hF : B_X0_passed_22 h  t0 = some r) : X cx 6 (zQ cx h0 (.inl (some (.int r.1))) r.2) h 22 [] [.ref t0] := by
  refine x_astore (lv' := [(5, .ref t0)]) hC dX0_passed_22 (by decide) [0] rfl ?_
  refine x_iconst (v := 1) hC dX0_passed_24 (by decide) ?_
  have e := some_e hF
  subst e
  exact x_iret hC dX0_passed_25
theorem w_X0_passed {cx : zX} {h0 : AH} (hC : Cx cx RX0 cX0_passed 6 9 162 (some .int) h0) (hE : cx.c.exceptionTable.toList = tableOf [(0, 19, 22, 21), (0, 19, 26, 15)]) {h : AH} {a0 : Nat} {x1 : Int32} {x2 : Int32} {x3 : Int32} {a4 : Nat} {r : (Int32 × AH)} (hF : F_X0_passed h a0 x1 x2 x3 a4 = some r) : X cx 6 (zQ cx h0 (.inl (some (.int r.1))) r.2) h 0 [(0, .ref a0), (1, .int x1), (2, .int x2), (3, .int x3), (4, .ref a4)] [] := by
  refine x_aload hC dX0_passed_0 4 rfl ?_
  refine x_iconst (v := 0) hC dX0_passed_2 (by decide) ?_
  refine x_aload_n hC dX0_passed_3 0 rfl ?_
  refine x_iload_n hC dX0_passed_4 1 rfl ?_
  refine x_iload_n hC dX0_passed_5 2 rfl ?_
  refine x_iload_n hC dX0_passed_6 3 rfl ?_
  obtain ⟨g13, hF⟩ := gd_e hF
  rcases ec_e hF with ⟨v14, h15, e18, hF⟩ | ⟨E16, q_17, h15, e18, hF⟩
  · refine xk_V (κ := 1) (As := [.int x1, .int x2, .int x3]) (st := [.int 0, .ref a4]) hC (m_X1_passed hC.fl e18) g13 rfl q1483 q1484 q1485 q1486 q97 hy_X1_passed ⟨Nat.le_of_ble_eq_true rfl, Nat.le_of_ble_eq_true rfl⟩ (Nat.le_of_ble_eq_true rfl) rfl dX0_passed_7 ?_
    refine x_if_eq (tgt := 17) hC dX0_passed_10 (by decide) (fun u19 => ?_) (fun u19 => ?_)
    · have hF := it_t u19 hF
      refine x_lconst (v := 0) hC dX0_passed_17 (by decide) ?_
      refine X.sub (lv' := []) [] rfl ?_
      exact w_X0_passed_18 hC hE  hF
    · have hF := it_f u19 hF
      refine x_lconst (v := 1) hC dX0_passed_13 (by decide) ?_
      refine x_goto (tgt := 18) hC dX0_passed_14 (by decide) ?_
      refine X.sub (lv' := []) [] rfl ?_
      exact w_X0_passed_18 hC hE  hF
  · refine xk_V (κ := 1) (As := [.int x1, .int x2, .int x3]) (st := [.int 0, .ref a4]) hC (mx_X1_passed hC.fl e18) g13 rfl q1483 q1484 q1485 q1486 q97 hy_X1_passed ⟨Nat.le_of_ble_eq_true rfl, Nat.le_of_ble_eq_true rfl⟩ (Nat.le_of_ble_eq_true rfl) rfl dX0_passed_7 ?_
    by_cases u20 : E16 = 2
    · have hF := it_t u20 hF
      subst u20
      refine x_catch (E := zE 2) hC [⟨0, 19, 22, 21⟩] ⟨0, 19, 26, 15⟩ [] (hE.trans rfl) (List.forall_mem_cons.mpr ⟨Or.inr ⟨by decide, _, q725, nce_X0_2_java_util_NoSuchElementException hC⟩, fun _ h => absurd h List.not_mem_nil⟩) (by decide) (by decide) q486 q590 ?_
      refine X.sub (lv' := []) [] rfl ?_
      exact w_X0_passed_26 hC hE  hF
    have hF := it_f u20 hF
    by_cases u21 : E16 = 3
    · have hF := it_t u21 hF
      subst u21
      refine x_catch (E := zE 3) hC [] ⟨0, 19, 22, 21⟩ [⟨0, 19, 26, 15⟩] (hE.trans rfl) (fun _ h => absurd h List.not_mem_nil) (by decide) (by decide) q725 q739 ?_
      refine X.sub (lv' := []) [] rfl ?_
      exact w_X0_passed_22 hC hE  hF
    have hF := it_f u21 hF
    cases hF
theorem hy_X0_passed : yX0_passed.cls ≠ "java/lang/invoke/MethodHandle" ∧ yX0_passed.cls ≠ "java/lang/invoke/VarHandle" ∧ (parseMethodDescriptor yX0_passed.desc).map (fun d => d.parameters.length) = some 5 := by decide +kernel
theorem m_X0_passed {Γ : zG} {l : Launch} (hfl : l.flags = flags0) {h : AH} {a0 : Nat} {x1 : Int32} {x2 : Int32} {x3 : Int32} {a4 : Nat} {r : (Int32 × AH)} (hF : F_X0_passed h a0 x1 x2 x3 a4 = some r) : zM Γ l yX0_passed (wsW_ yX0_passed cX0_passed 6 (some .int) [(0, 19, 22, 21), (0, 19, 26, 15)]) 9 162 [.ref a0, .int x1, .int x2, .int x3, .ref a4] h (.inl (some (.int r.1))) r.2 := z_ofH hfl (by decide) (Nat.le_of_ble_eq_true rfl) fun x hG hl hC hN hE => by subst hG; subst hl; exact w_X0_passed hC hE hF
-- X0_reply
def B_X0_reply_19 (h : AH)  (t0 : Nat) : Option (Int32 × AH) := some (2, h)
def B_X0_reply_15 (h : AH)  (t0 : Nat) : Option (Int32 × AH) := some (1, h)
def B_X0_reply_23 (h : AH)  (t0 : Nat) : Option (Int32 × AH) := some (3, h)
def F_X0_reply (h : AH) (a0 : Nat) (x1 : Int32) (x2 : Int32) (x3 : Int32) (a4 : Nat) : Option (Int32 × AH) := gd (hK h a0 = 1) (ec (F_X1_reply h a0 x1 x2 x3) (fun v11 h12 => gd (hK h12 a4 = 102 ∧ inb 0 (hL h12 a4)) (lh (wJ h12 a4 (ix 0) (Int32.toInt64 v11)) fun h17 => some (0, h17))) (fun E13 q_14 h12 => if E13 = 2 then B_X0_reply_19 h12 q_14 else if E13 = 3 then B_X0_reply_15 h12 q_14 else if E13 = 4 then B_X0_reply_23 h12 q_14 else none))
theorem w_X0_reply_19 {cx : zX} {h0 : AH} (hC : Cx cx RX0 cX0_reply 6 10 176 (some .int) h0) (hE : cx.c.exceptionTable.toList = tableOf [(0, 12, 15, 21), (0, 12, 19, 15), (0, 12, 23, 71)]) {h : AH} {r : (Int32 × AH)}   {t0 : Nat} (hF : B_X0_reply_19 h  t0 = some r) : X cx 6 (zQ cx h0 (.inl (some (.int r.1))) r.2) h 19 [] [.ref t0] := by
  refine x_astore (lv' := [(5, .ref t0)]) hC dX0_reply_19 (by decide) [0] rfl ?_
  refine x_iconst (v := 2) hC dX0_reply_21 (by decide) ?_
  have e := some_e hF
  subst e
  exact x_iret hC dX0_reply_22
theorem w_X0_reply_15 {cx : zX} {h0 : AH} (hC : Cx cx RX0 cX0_reply 6 10 176 (some .int) h0) (hE : cx.c.exceptionTable.toList = tableOf [(0, 12, 15, 21), (0, 12, 19, 15), (0, 12, 23, 71)]) {h : AH} {r : (Int32 × AH)}   {t0 : Nat} (hF : B_X0_reply_15 h  t0 = some r) : X cx 6 (zQ cx h0 (.inl (some (.int r.1))) r.2) h 15 [] [.ref t0] := by
  refine x_astore (lv' := [(5, .ref t0)]) hC dX0_reply_15 (by decide) [0] rfl ?_
  refine x_iconst (v := 1) hC dX0_reply_17 (by decide) ?_
  have e := some_e hF
  subst e
  exact x_iret hC dX0_reply_18
theorem w_X0_reply_23 {cx : zX} {h0 : AH} (hC : Cx cx RX0 cX0_reply 6 10 176 (some .int) h0) (hE : cx.c.exceptionTable.toList = tableOf [(0, 12, 15, 21), (0, 12, 19, 15), (0, 12, 23, 71)]) {h : AH} {r : (Int32 × AH)}   {t0 : Nat} (hF : B_X0_reply_23 h  t0 = some r) : X cx 6 (zQ cx h0 (.inl (some (.int r.1))) r.2) h 23 [] [.ref t0] := by
  refine x_astore (lv' := [(5, .ref t0)]) hC dX0_reply_23 (by decide) [0] rfl ?_
  refine x_iconst (v := 3) hC dX0_reply_25 (by decide) ?_
  have e := some_e hF
  subst e
  exact x_iret hC dX0_reply_26
theorem w_X0_reply {cx : zX} {h0 : AH} (hC : Cx cx RX0 cX0_reply 6 10 176 (some .int) h0) (hE : cx.c.exceptionTable.toList = tableOf [(0, 12, 15, 21), (0, 12, 19, 15), (0, 12, 23, 71)]) {h : AH} {a0 : Nat} {x1 : Int32} {x2 : Int32} {x3 : Int32} {a4 : Nat} {r : (Int32 × AH)} (hF : F_X0_reply h a0 x1 x2 x3 a4 = some r) : X cx 6 (zQ cx h0 (.inl (some (.int r.1))) r.2) h 0 [(0, .ref a0), (1, .int x1), (2, .int x2), (3, .int x3), (4, .ref a4)] [] := by
  refine x_aload hC dX0_reply_0 4 rfl ?_
  refine x_iconst (v := 0) hC dX0_reply_2 (by decide) ?_
  refine x_aload_n hC dX0_reply_3 0 rfl ?_
  refine x_iload_n hC dX0_reply_4 1 rfl ?_
  refine x_iload_n hC dX0_reply_5 2 rfl ?_
  refine x_iload_n hC dX0_reply_6 3 rfl ?_
  obtain ⟨g10, hF⟩ := gd_e hF
  rcases ec_e hF with ⟨v11, h12, e15, hF⟩ | ⟨E13, q_14, h12, e15, hF⟩
  · refine xk_V (κ := 1) (As := [.int x1, .int x2, .int x3]) (st := [.int 0, .ref a4]) hC (m_X1_reply hC.fl e15) g10 rfl q1570 q1571 q1572 q1573 q97 hy_X1_reply ⟨Nat.le_of_ble_eq_true rfl, Nat.le_of_ble_eq_true rfl⟩ (Nat.le_of_ble_eq_true rfl) rfl dX0_reply_7 ?_
    refine x_i2l hC dX0_reply_10 ?_
    obtain ⟨g16, hF⟩ := gd_e hF
    obtain ⟨h17, e18, hF⟩ := lh_e hF
    refine x_lastE hC e18 g16.1 g16.2 dX0_reply_11 ?_
    refine x_goto (tgt := 27) hC dX0_reply_12 (by decide) ?_
    refine x_iconst (v := 0) hC dX0_reply_27 (by decide) ?_
    have e := some_e hF
    subst e
    exact x_iret hC dX0_reply_28
  · refine xk_V (κ := 1) (As := [.int x1, .int x2, .int x3]) (st := [.int 0, .ref a4]) hC (mx_X1_reply hC.fl e15) g10 rfl q1570 q1571 q1572 q1573 q97 hy_X1_reply ⟨Nat.le_of_ble_eq_true rfl, Nat.le_of_ble_eq_true rfl⟩ (Nat.le_of_ble_eq_true rfl) rfl dX0_reply_7 ?_
    by_cases u19 : E13 = 2
    · have hF := it_t u19 hF
      subst u19
      refine x_catch (E := zE 2) hC [⟨0, 12, 15, 21⟩] ⟨0, 12, 19, 15⟩ [⟨0, 12, 23, 71⟩] (hE.trans rfl) (List.forall_mem_cons.mpr ⟨Or.inr ⟨by decide, _, q725, nce_X0_2_java_util_NoSuchElementException hC⟩, fun _ h => absurd h List.not_mem_nil⟩) (by decide) (by decide) q486 q590 ?_
      refine X.sub (lv' := []) [] rfl ?_
      exact w_X0_reply_19 hC hE  hF
    have hF := it_f u19 hF
    by_cases u20 : E13 = 3
    · have hF := it_t u20 hF
      subst u20
      refine x_catch (E := zE 3) hC [] ⟨0, 12, 15, 21⟩ [⟨0, 12, 19, 15⟩, ⟨0, 12, 23, 71⟩] (hE.trans rfl) (fun _ h => absurd h List.not_mem_nil) (by decide) (by decide) q725 q739 ?_
      refine X.sub (lv' := []) [] rfl ?_
      exact w_X0_reply_15 hC hE  hF
    have hF := it_f u20 hF
    by_cases u21 : E13 = 4
    · have hF := it_t u21 hF
      subst u21
      refine x_catch (E := zE 4) hC [⟨0, 12, 15, 21⟩, ⟨0, 12, 19, 15⟩] ⟨0, 12, 23, 71⟩ [] (hE.trans rfl) (List.forall_mem_cons.mpr ⟨Or.inr ⟨by decide, _, q725, nce_X0_4_java_util_NoSuchElementException hC⟩, List.forall_mem_cons.mpr ⟨Or.inr ⟨by decide, _, q486, nce_X0_4_java_lang_IllegalArgumentException hC⟩, fun _ h => absurd h List.not_mem_nil⟩⟩) (by decide) (by decide) q1501 q1550 ?_
      refine X.sub (lv' := []) [] rfl ?_
      exact w_X0_reply_23 hC hE  hF
    have hF := it_f u21 hF
    cases hF
theorem hy_X0_reply : yX0_reply.cls ≠ "java/lang/invoke/MethodHandle" ∧ yX0_reply.cls ≠ "java/lang/invoke/VarHandle" ∧ (parseMethodDescriptor yX0_reply.desc).map (fun d => d.parameters.length) = some 5 := by decide +kernel
theorem m_X0_reply {Γ : zG} {l : Launch} (hfl : l.flags = flags0) {h : AH} {a0 : Nat} {x1 : Int32} {x2 : Int32} {x3 : Int32} {a4 : Nat} {r : (Int32 × AH)} (hF : F_X0_reply h a0 x1 x2 x3 a4 = some r) : zM Γ l yX0_reply (wsW_ yX0_reply cX0_reply 6 (some .int) [(0, 12, 15, 21), (0, 12, 19, 15), (0, 12, 23, 71)]) 10 176 [.ref a0, .int x1, .int x2, .int x3, .ref a4] h (.inl (some (.int r.1))) r.2 := z_ofH hfl (by decide) (Nat.le_of_ble_eq_true rfl) fun x hG hl hC hN hE => by subst hG; subst hl; exact w_X0_reply hC hE hF
-- X0_even
def B_X0_even_19 (h : AH)  (t0 : Nat) : Option (Int32 × AH) := some (2, h)
def B_X0_even_15 (h : AH)  (t0 : Nat) : Option (Int32 × AH) := some (1, h)
def F_X0_even (h : AH) (a0 : Nat) (x1 : Int32) (x2 : Int32) (x3 : Int32) (a4 : Nat) : Option (Int32 × AH) := gd (hK h a0 = 1) (ec (F_X1_even h a0 x1 x2 x3) (fun v11 h12 => gd (hK h12 a4 = 102 ∧ inb 0 (hL h12 a4)) (lh (wJ h12 a4 (ix 0) (Int32.toInt64 v11)) fun h17 => some (0, h17))) (fun E13 q_14 h12 => if E13 = 2 then B_X0_even_19 h12 q_14 else if E13 = 3 then B_X0_even_15 h12 q_14 else none))
theorem w_X0_even_19 {cx : zX} {h0 : AH} (hC : Cx cx RX0 cX0_even 6 10 176 (some .int) h0) (hE : cx.c.exceptionTable.toList = tableOf [(0, 12, 15, 21), (0, 12, 19, 15)]) {h : AH} {r : (Int32 × AH)}   {t0 : Nat} (hF : B_X0_even_19 h  t0 = some r) : X cx 6 (zQ cx h0 (.inl (some (.int r.1))) r.2) h 19 [] [.ref t0] := by
  refine x_astore (lv' := [(5, .ref t0)]) hC dX0_even_19 (by decide) [0] rfl ?_
  refine x_iconst (v := 2) hC dX0_even_21 (by decide) ?_
  have e := some_e hF
  subst e
  exact x_iret hC dX0_even_22
theorem w_X0_even_15 {cx : zX} {h0 : AH} (hC : Cx cx RX0 cX0_even 6 10 176 (some .int) h0) (hE : cx.c.exceptionTable.toList = tableOf [(0, 12, 15, 21), (0, 12, 19, 15)]) {h : AH} {r : (Int32 × AH)}   {t0 : Nat} (hF : B_X0_even_15 h  t0 = some r) : X cx 6 (zQ cx h0 (.inl (some (.int r.1))) r.2) h 15 [] [.ref t0] := by
  refine x_astore (lv' := [(5, .ref t0)]) hC dX0_even_15 (by decide) [0] rfl ?_
  refine x_iconst (v := 1) hC dX0_even_17 (by decide) ?_
  have e := some_e hF
  subst e
  exact x_iret hC dX0_even_18
theorem w_X0_even {cx : zX} {h0 : AH} (hC : Cx cx RX0 cX0_even 6 10 176 (some .int) h0) (hE : cx.c.exceptionTable.toList = tableOf [(0, 12, 15, 21), (0, 12, 19, 15)]) {h : AH} {a0 : Nat} {x1 : Int32} {x2 : Int32} {x3 : Int32} {a4 : Nat} {r : (Int32 × AH)} (hF : F_X0_even h a0 x1 x2 x3 a4 = some r) : X cx 6 (zQ cx h0 (.inl (some (.int r.1))) r.2) h 0 [(0, .ref a0), (1, .int x1), (2, .int x2), (3, .int x3), (4, .ref a4)] [] := by
  refine x_aload hC dX0_even_0 4 rfl ?_
  refine x_iconst (v := 0) hC dX0_even_2 (by decide) ?_
  refine x_aload_n hC dX0_even_3 0 rfl ?_
  refine x_iload_n hC dX0_even_4 1 rfl ?_
  refine x_iload_n hC dX0_even_5 2 rfl ?_
  refine x_iload_n hC dX0_even_6 3 rfl ?_
  obtain ⟨g10, hF⟩ := gd_e hF
  rcases ec_e hF with ⟨v11, h12, e15, hF⟩ | ⟨E13, q_14, h12, e15, hF⟩
  · refine xk_V (κ := 1) (As := [.int x1, .int x2, .int x3]) (st := [.int 0, .ref a4]) hC (m_X1_even hC.fl e15) g10 rfl q1581 q1582 q1583 q1584 q97 hy_X1_even ⟨Nat.le_of_ble_eq_true rfl, Nat.le_of_ble_eq_true rfl⟩ (Nat.le_of_ble_eq_true rfl) rfl dX0_even_7 ?_
    refine x_i2l hC dX0_even_10 ?_
    obtain ⟨g16, hF⟩ := gd_e hF
    obtain ⟨h17, e18, hF⟩ := lh_e hF
    refine x_lastE hC e18 g16.1 g16.2 dX0_even_11 ?_
    refine x_goto (tgt := 23) hC dX0_even_12 (by decide) ?_
    refine x_iconst (v := 0) hC dX0_even_23 (by decide) ?_
    have e := some_e hF
    subst e
    exact x_iret hC dX0_even_24
  · refine xk_V (κ := 1) (As := [.int x1, .int x2, .int x3]) (st := [.int 0, .ref a4]) hC (mx_X1_even hC.fl e15) g10 rfl q1581 q1582 q1583 q1584 q97 hy_X1_even ⟨Nat.le_of_ble_eq_true rfl, Nat.le_of_ble_eq_true rfl⟩ (Nat.le_of_ble_eq_true rfl) rfl dX0_even_7 ?_
    by_cases u19 : E13 = 2
    · have hF := it_t u19 hF
      subst u19
      refine x_catch (E := zE 2) hC [⟨0, 12, 15, 21⟩] ⟨0, 12, 19, 15⟩ [] (hE.trans rfl) (List.forall_mem_cons.mpr ⟨Or.inr ⟨by decide, _, q725, nce_X0_2_java_util_NoSuchElementException hC⟩, fun _ h => absurd h List.not_mem_nil⟩) (by decide) (by decide) q486 q590 ?_
      refine X.sub (lv' := []) [] rfl ?_
      exact w_X0_even_19 hC hE  hF
    have hF := it_f u19 hF
    by_cases u20 : E13 = 3
    · have hF := it_t u20 hF
      subst u20
      refine x_catch (E := zE 3) hC [] ⟨0, 12, 15, 21⟩ [⟨0, 12, 19, 15⟩] (hE.trans rfl) (fun _ h => absurd h List.not_mem_nil) (by decide) (by decide) q725 q739 ?_
      refine X.sub (lv' := []) [] rfl ?_
      exact w_X0_even_15 hC hE  hF
    have hF := it_f u20 hF
    cases hF
theorem hy_X0_even : yX0_even.cls ≠ "java/lang/invoke/MethodHandle" ∧ yX0_even.cls ≠ "java/lang/invoke/VarHandle" ∧ (parseMethodDescriptor yX0_even.desc).map (fun d => d.parameters.length) = some 5 := by decide +kernel
theorem m_X0_even {Γ : zG} {l : Launch} (hfl : l.flags = flags0) {h : AH} {a0 : Nat} {x1 : Int32} {x2 : Int32} {x3 : Int32} {a4 : Nat} {r : (Int32 × AH)} (hF : F_X0_even h a0 x1 x2 x3 a4 = some r) : zM Γ l yX0_even (wsW_ yX0_even cX0_even 6 (some .int) [(0, 12, 15, 21), (0, 12, 19, 15)]) 10 176 [.ref a0, .int x1, .int x2, .int x3, .ref a4] h (.inl (some (.int r.1))) r.2 := z_ofH hfl (by decide) (Nat.le_of_ble_eq_true rfl) fun x hG hl hC hN hE => by subst hG; subst hl; exact w_X0_even hC hE hF
-- X0_joint
def B_X0_joint_17 (h : AH)  (t0 : Nat) : Option (Int32 × AH) := some (2, h)
def B_X0_joint_13 (h : AH)  (t0 : Nat) : Option (Int32 × AH) := some (1, h)
def F_X0_joint (h : AH) (a0 : Nat) (x1 : Int32) (x2 : Int32) (a3 : Nat) : Option (Int32 × AH) := gd (hK h a0 = 1) (ec (F_X1_joint h a0 x1 x2) (fun v11 h12 => gd (hK h12 a3 = 102 ∧ inb 0 (hL h12 a3)) (lh (wJ h12 a3 (ix 0) (Int32.toInt64 v11)) fun h17 => some (0, h17))) (fun E13 q_14 h12 => if E13 = 2 then B_X0_joint_17 h12 q_14 else if E13 = 3 then B_X0_joint_13 h12 q_14 else none))
theorem w_X0_joint_17 {cx : zX} {h0 : AH} (hC : Cx cx RX0 cX0_joint 5 10 178 (some .int) h0) (hE : cx.c.exceptionTable.toList = tableOf [(0, 10, 13, 21), (0, 10, 17, 15)]) {h : AH} {r : (Int32 × AH)}   {t0 : Nat} (hF : B_X0_joint_17 h  t0 = some r) : X cx 5 (zQ cx h0 (.inl (some (.int r.1))) r.2) h 17 [] [.ref t0] := by
  refine x_astore (lv' := [(4, .ref t0)]) hC dX0_joint_17 (by decide) [0] rfl ?_
  refine x_iconst (v := 2) hC dX0_joint_19 (by decide) ?_
  have e := some_e hF
  subst e
  exact x_iret hC dX0_joint_20
theorem w_X0_joint_13 {cx : zX} {h0 : AH} (hC : Cx cx RX0 cX0_joint 5 10 178 (some .int) h0) (hE : cx.c.exceptionTable.toList = tableOf [(0, 10, 13, 21), (0, 10, 17, 15)]) {h : AH} {r : (Int32 × AH)}   {t0 : Nat} (hF : B_X0_joint_13 h  t0 = some r) : X cx 5 (zQ cx h0 (.inl (some (.int r.1))) r.2) h 13 [] [.ref t0] := by
  refine x_astore (lv' := [(4, .ref t0)]) hC dX0_joint_13 (by decide) [0] rfl ?_
  refine x_iconst (v := 1) hC dX0_joint_15 (by decide) ?_
  have e := some_e hF
  subst e
  exact x_iret hC dX0_joint_16
theorem w_X0_joint {cx : zX} {h0 : AH} (hC : Cx cx RX0 cX0_joint 5 10 178 (some .int) h0) (hE : cx.c.exceptionTable.toList = tableOf [(0, 10, 13, 21), (0, 10, 17, 15)]) {h : AH} {a0 : Nat} {x1 : Int32} {x2 : Int32} {a3 : Nat} {r : (Int32 × AH)} (hF : F_X0_joint h a0 x1 x2 a3 = some r) : X cx 5 (zQ cx h0 (.inl (some (.int r.1))) r.2) h 0 [(0, .ref a0), (1, .int x1), (2, .int x2), (3, .ref a3)] [] := by
  refine x_aload_n hC dX0_joint_0 3 rfl ?_
  refine x_iconst (v := 0) hC dX0_joint_1 (by decide) ?_
  refine x_aload_n hC dX0_joint_2 0 rfl ?_
  refine x_iload_n hC dX0_joint_3 1 rfl ?_
  refine x_iload_n hC dX0_joint_4 2 rfl ?_
  obtain ⟨g10, hF⟩ := gd_e hF
  rcases ec_e hF with ⟨v11, h12, e15, hF⟩ | ⟨E13, q_14, h12, e15, hF⟩
  · refine xk_V (κ := 1) (As := [.int x1, .int x2]) (st := [.int 0, .ref a3]) hC (m_X1_joint hC.fl e15) g10 rfl q1596 q1597 q1598 q1599 q97 hy_X1_joint ⟨Nat.le_of_ble_eq_true rfl, Nat.le_of_ble_eq_true rfl⟩ (Nat.le_of_ble_eq_true rfl) rfl dX0_joint_5 ?_
    refine x_i2l hC dX0_joint_8 ?_
    obtain ⟨g16, hF⟩ := gd_e hF
    obtain ⟨h17, e18, hF⟩ := lh_e hF
    refine x_lastE hC e18 g16.1 g16.2 dX0_joint_9 ?_
    refine x_goto (tgt := 21) hC dX0_joint_10 (by decide) ?_
    refine x_iconst (v := 0) hC dX0_joint_21 (by decide) ?_
    have e := some_e hF
    subst e
    exact x_iret hC dX0_joint_22
  · refine xk_V (κ := 1) (As := [.int x1, .int x2]) (st := [.int 0, .ref a3]) hC (mx_X1_joint hC.fl e15) g10 rfl q1596 q1597 q1598 q1599 q97 hy_X1_joint ⟨Nat.le_of_ble_eq_true rfl, Nat.le_of_ble_eq_true rfl⟩ (Nat.le_of_ble_eq_true rfl) rfl dX0_joint_5 ?_
    by_cases u19 : E13 = 2
    · have hF := it_t u19 hF
      subst u19
      refine x_catch (E := zE 2) hC [⟨0, 10, 13, 21⟩] ⟨0, 10, 17, 15⟩ [] (hE.trans rfl) (List.forall_mem_cons.mpr ⟨Or.inr ⟨by decide, _, q725, nce_X0_2_java_util_NoSuchElementException hC⟩, fun _ h => absurd h List.not_mem_nil⟩) (by decide) (by decide) q486 q590 ?_
      refine X.sub (lv' := []) [] rfl ?_
      exact w_X0_joint_17 hC hE  hF
    have hF := it_f u19 hF
    by_cases u20 : E13 = 3
    · have hF := it_t u20 hF
      subst u20
      refine x_catch (E := zE 3) hC [] ⟨0, 10, 13, 21⟩ [⟨0, 10, 17, 15⟩] (hE.trans rfl) (fun _ h => absurd h List.not_mem_nil) (by decide) (by decide) q725 q739 ?_
      refine X.sub (lv' := []) [] rfl ?_
      exact w_X0_joint_13 hC hE  hF
    have hF := it_f u20 hF
    cases hF
theorem hy_X0_joint : yX0_joint.cls ≠ "java/lang/invoke/MethodHandle" ∧ yX0_joint.cls ≠ "java/lang/invoke/VarHandle" ∧ (parseMethodDescriptor yX0_joint.desc).map (fun d => d.parameters.length) = some 4 := by decide +kernel
theorem m_X0_joint {Γ : zG} {l : Launch} (hfl : l.flags = flags0) {h : AH} {a0 : Nat} {x1 : Int32} {x2 : Int32} {a3 : Nat} {r : (Int32 × AH)} (hF : F_X0_joint h a0 x1 x2 a3 = some r) : zM Γ l yX0_joint (wsW_ yX0_joint cX0_joint 5 (some .int) [(0, 10, 13, 21), (0, 10, 17, 15)]) 10 178 [.ref a0, .int x1, .int x2, .ref a3] h (.inl (some (.int r.1))) r.2 := z_ofH hfl (by decide) (Nat.le_of_ble_eq_true rfl) fun x hG hl hC hN hE => by subst hG; subst hl; exact w_X0_joint hC hE hF
-- X0_gains
def B_X0_gains_22 (h : AH)  (t0 : Nat) : Option (Int32 × AH) := some (2, h)
def B_X0_gains_18 (h : AH)  (t0 : Nat) : Option (Int32 × AH) := some (1, h)
def B_X0_gains_26 (h : AH)  (t0 : Nat) : Option (Int32 × AH) := some (3, h)
def F_X0_gains (h : AH) (a0 : Nat) (x1 : Int32) (x2 : Int32) (x3 : Int32) (x4 : Int32) (x5 : Int32) (a6 : Nat) : Option (Int32 × AH) := gd (hK h a0 = 1) (ec (F_X1_gains h a0 x1 x2 x3 x4 x5) (fun v11 h12 => gd (hK h12 a6 = 102 ∧ inb 0 (hL h12 a6)) (lh (wJ h12 a6 (ix 0) v11) fun h17 => some (0, h17))) (fun E13 q_14 h12 => if E13 = 2 then B_X0_gains_22 h12 q_14 else if E13 = 3 then B_X0_gains_18 h12 q_14 else if E13 = 4 then B_X0_gains_26 h12 q_14 else none))
theorem w_X0_gains_22 {cx : zX} {h0 : AH} (hC : Cx cx RX0 cX0_gains 8 11 202 (some .int) h0) (hE : cx.c.exceptionTable.toList = tableOf [(0, 15, 18, 21), (0, 15, 22, 15), (0, 15, 26, 71)]) {h : AH} {r : (Int32 × AH)}   {t0 : Nat} (hF : B_X0_gains_22 h  t0 = some r) : X cx 8 (zQ cx h0 (.inl (some (.int r.1))) r.2) h 22 [] [.ref t0] := by
  refine x_astore (lv' := [(7, .ref t0)]) hC dX0_gains_22 (by decide) [0] rfl ?_
  refine x_iconst (v := 2) hC dX0_gains_24 (by decide) ?_
  have e := some_e hF
  subst e
  exact x_iret hC dX0_gains_25
theorem w_X0_gains_18 {cx : zX} {h0 : AH} (hC : Cx cx RX0 cX0_gains 8 11 202 (some .int) h0) (hE : cx.c.exceptionTable.toList = tableOf [(0, 15, 18, 21), (0, 15, 22, 15), (0, 15, 26, 71)]) {h : AH} {r : (Int32 × AH)}   {t0 : Nat} (hF : B_X0_gains_18 h  t0 = some r) : X cx 8 (zQ cx h0 (.inl (some (.int r.1))) r.2) h 18 [] [.ref t0] := by
  refine x_astore (lv' := [(7, .ref t0)]) hC dX0_gains_18 (by decide) [0] rfl ?_
  refine x_iconst (v := 1) hC dX0_gains_20 (by decide) ?_
  have e := some_e hF
  subst e
  exact x_iret hC dX0_gains_21
theorem w_X0_gains_26 {cx : zX} {h0 : AH} (hC : Cx cx RX0 cX0_gains 8 11 202 (some .int) h0) (hE : cx.c.exceptionTable.toList = tableOf [(0, 15, 18, 21), (0, 15, 22, 15), (0, 15, 26, 71)]) {h : AH} {r : (Int32 × AH)}   {t0 : Nat} (hF : B_X0_gains_26 h  t0 = some r) : X cx 8 (zQ cx h0 (.inl (some (.int r.1))) r.2) h 26 [] [.ref t0] := by
  refine x_astore (lv' := [(7, .ref t0)]) hC dX0_gains_26 (by decide) [0] rfl ?_
  refine x_iconst (v := 3) hC dX0_gains_28 (by decide) ?_
  have e := some_e hF
  subst e
  exact x_iret hC dX0_gains_29
theorem w_X0_gains {cx : zX} {h0 : AH} (hC : Cx cx RX0 cX0_gains 8 11 202 (some .int) h0) (hE : cx.c.exceptionTable.toList = tableOf [(0, 15, 18, 21), (0, 15, 22, 15), (0, 15, 26, 71)]) {h : AH} {a0 : Nat} {x1 : Int32} {x2 : Int32} {x3 : Int32} {x4 : Int32} {x5 : Int32} {a6 : Nat} {r : (Int32 × AH)} (hF : F_X0_gains h a0 x1 x2 x3 x4 x5 a6 = some r) : X cx 8 (zQ cx h0 (.inl (some (.int r.1))) r.2) h 0 [(0, .ref a0), (1, .int x1), (2, .int x2), (3, .int x3), (4, .int x4), (5, .int x5), (6, .ref a6)] [] := by
  refine x_aload hC dX0_gains_0 6 rfl ?_
  refine x_iconst (v := 0) hC dX0_gains_2 (by decide) ?_
  refine x_aload_n hC dX0_gains_3 0 rfl ?_
  refine x_iload_n hC dX0_gains_4 1 rfl ?_
  refine x_iload_n hC dX0_gains_5 2 rfl ?_
  refine x_iload_n hC dX0_gains_6 3 rfl ?_
  refine x_iload hC dX0_gains_7 4 rfl ?_
  refine x_iload hC dX0_gains_9 5 rfl ?_
  obtain ⟨g10, hF⟩ := gd_e hF
  rcases ec_e hF with ⟨v11, h12, e15, hF⟩ | ⟨E13, q_14, h12, e15, hF⟩
  · refine xk_V (κ := 1) (As := [.int x1, .int x2, .int x3, .int x4, .int x5]) (st := [.int 0, .ref a6]) hC (m_X1_gains hC.fl e15) g10 rfl q1623 q1624 q1625 q1626 q97 hy_X1_gains ⟨Nat.le_of_ble_eq_true rfl, Nat.le_of_ble_eq_true rfl⟩ (Nat.le_of_ble_eq_true rfl) rfl dX0_gains_11 ?_
    obtain ⟨g16, hF⟩ := gd_e hF
    obtain ⟨h17, e18, hF⟩ := lh_e hF
    refine x_lastE hC e18 g16.1 g16.2 dX0_gains_14 ?_
    refine x_goto (tgt := 30) hC dX0_gains_15 (by decide) ?_
    refine x_iconst (v := 0) hC dX0_gains_30 (by decide) ?_
    have e := some_e hF
    subst e
    exact x_iret hC dX0_gains_31
  · refine xk_V (κ := 1) (As := [.int x1, .int x2, .int x3, .int x4, .int x5]) (st := [.int 0, .ref a6]) hC (mx_X1_gains hC.fl e15) g10 rfl q1623 q1624 q1625 q1626 q97 hy_X1_gains ⟨Nat.le_of_ble_eq_true rfl, Nat.le_of_ble_eq_true rfl⟩ (Nat.le_of_ble_eq_true rfl) rfl dX0_gains_11 ?_
    by_cases u19 : E13 = 2
    · have hF := it_t u19 hF
      subst u19
      refine x_catch (E := zE 2) hC [⟨0, 15, 18, 21⟩] ⟨0, 15, 22, 15⟩ [⟨0, 15, 26, 71⟩] (hE.trans rfl) (List.forall_mem_cons.mpr ⟨Or.inr ⟨by decide, _, q725, nce_X0_2_java_util_NoSuchElementException hC⟩, fun _ h => absurd h List.not_mem_nil⟩) (by decide) (by decide) q486 q590 ?_
      refine X.sub (lv' := []) [] rfl ?_
      exact w_X0_gains_22 hC hE  hF
    have hF := it_f u19 hF
    by_cases u20 : E13 = 3
    · have hF := it_t u20 hF
      subst u20
      refine x_catch (E := zE 3) hC [] ⟨0, 15, 18, 21⟩ [⟨0, 15, 22, 15⟩, ⟨0, 15, 26, 71⟩] (hE.trans rfl) (fun _ h => absurd h List.not_mem_nil) (by decide) (by decide) q725 q739 ?_
      refine X.sub (lv' := []) [] rfl ?_
      exact w_X0_gains_18 hC hE  hF
    have hF := it_f u20 hF
    by_cases u21 : E13 = 4
    · have hF := it_t u21 hF
      subst u21
      refine x_catch (E := zE 4) hC [⟨0, 15, 18, 21⟩, ⟨0, 15, 22, 15⟩] ⟨0, 15, 26, 71⟩ [] (hE.trans rfl) (List.forall_mem_cons.mpr ⟨Or.inr ⟨by decide, _, q725, nce_X0_4_java_util_NoSuchElementException hC⟩, List.forall_mem_cons.mpr ⟨Or.inr ⟨by decide, _, q486, nce_X0_4_java_lang_IllegalArgumentException hC⟩, fun _ h => absurd h List.not_mem_nil⟩⟩) (by decide) (by decide) q1501 q1550 ?_
      refine X.sub (lv' := []) [] rfl ?_
      exact w_X0_gains_26 hC hE  hF
    have hF := it_f u21 hF
    cases hF
theorem hy_X0_gains : yX0_gains.cls ≠ "java/lang/invoke/MethodHandle" ∧ yX0_gains.cls ≠ "java/lang/invoke/VarHandle" ∧ (parseMethodDescriptor yX0_gains.desc).map (fun d => d.parameters.length) = some 7 := by decide +kernel
theorem m_X0_gains {Γ : zG} {l : Launch} (hfl : l.flags = flags0) {h : AH} {a0 : Nat} {x1 : Int32} {x2 : Int32} {x3 : Int32} {x4 : Int32} {x5 : Int32} {a6 : Nat} {r : (Int32 × AH)} (hF : F_X0_gains h a0 x1 x2 x3 x4 x5 a6 = some r) : zM Γ l yX0_gains (wsW_ yX0_gains cX0_gains 8 (some .int) [(0, 15, 18, 21), (0, 15, 22, 15), (0, 15, 26, 71)]) 11 202 [.ref a0, .int x1, .int x2, .int x3, .int x4, .int x5, .ref a6] h (.inl (some (.int r.1))) r.2 := z_ofH hfl (by decide) (Nat.le_of_ble_eq_true rfl) fun x hG hl hC hN hE => by subst hG; subst hl; exact w_X0_gains hC hE hF
-- X0_story
def B_X0_story_16 (h : AH)  (t0 : Int64) (t1 : Int32) (t2 : Nat) : Option (Int32 × AH) := gd (hK h t2 = 102 ∧ inb t1 (hL h t2)) (lh (wJ h t2 (ix t1) t0) fun h11 => some (0, h11))
def B_X0_story_24 (h : AH)  (t0 : Nat) : Option (Int32 × AH) := some (2, h)
def B_X0_story_20 (h : AH)  (t0 : Nat) : Option (Int32 × AH) := some (1, h)
def F_X0_story (h : AH) (a0 : Nat) (x1 : Int32) (x2 : Int32) (a3 : Nat) : Option (Int32 × AH) := gd (hK h a0 = 1) (ec (F_X1_story h a0 x1 x2) (fun v14 h15 => if v14 = 0 then B_X0_story_16 h15 0 0 a3 else B_X0_story_16 h15 1 0 a3) (fun E16 q_17 h15 => if E16 = 1 then B_X0_story_24 h15 q_17 else if E16 = 3 then B_X0_story_20 h15 q_17 else none))
theorem w_X0_story_16 {cx : zX} {h0 : AH} (hC : Cx cx RX0 cX0_story 5 11 10327 (some .int) h0) (hE : cx.c.exceptionTable.toList = tableOf [(0, 17, 20, 21), (0, 17, 24, 13)]) {h : AH} {r : (Int32 × AH)}   {t0 : Int64} {t1 : Int32} {t2 : Nat} (hF : B_X0_story_16 h  t0 t1 t2 = some r) : X cx 5 (zQ cx h0 (.inl (some (.int r.1))) r.2) h 16 [] [.long t0, .int t1, .ref t2] := by
  obtain ⟨g10, hF⟩ := gd_e hF
  obtain ⟨h11, e12, hF⟩ := lh_e hF
  refine x_lastE hC e12 g10.1 g10.2 dX0_story_16 ?_
  refine x_goto (tgt := 28) hC dX0_story_17 (by decide) ?_
  refine x_iconst (v := 0) hC dX0_story_28 (by decide) ?_
  have e := some_e hF
  subst e
  exact x_iret hC dX0_story_29
theorem w_X0_story_24 {cx : zX} {h0 : AH} (hC : Cx cx RX0 cX0_story 5 11 10327 (some .int) h0) (hE : cx.c.exceptionTable.toList = tableOf [(0, 17, 20, 21), (0, 17, 24, 13)]) {h : AH} {r : (Int32 × AH)}   {t0 : Nat} (hF : B_X0_story_24 h  t0 = some r) : X cx 5 (zQ cx h0 (.inl (some (.int r.1))) r.2) h 24 [] [.ref t0] := by
  refine x_astore (lv' := [(4, .ref t0)]) hC dX0_story_24 (by decide) [0] rfl ?_
  refine x_iconst (v := 2) hC dX0_story_26 (by decide) ?_
  have e := some_e hF
  subst e
  exact x_iret hC dX0_story_27
theorem w_X0_story_20 {cx : zX} {h0 : AH} (hC : Cx cx RX0 cX0_story 5 11 10327 (some .int) h0) (hE : cx.c.exceptionTable.toList = tableOf [(0, 17, 20, 21), (0, 17, 24, 13)]) {h : AH} {r : (Int32 × AH)}   {t0 : Nat} (hF : B_X0_story_20 h  t0 = some r) : X cx 5 (zQ cx h0 (.inl (some (.int r.1))) r.2) h 20 [] [.ref t0] := by
  refine x_astore (lv' := [(4, .ref t0)]) hC dX0_story_20 (by decide) [0] rfl ?_
  refine x_iconst (v := 1) hC dX0_story_22 (by decide) ?_
  have e := some_e hF
  subst e
  exact x_iret hC dX0_story_23
theorem w_X0_story {cx : zX} {h0 : AH} (hC : Cx cx RX0 cX0_story 5 11 10327 (some .int) h0) (hE : cx.c.exceptionTable.toList = tableOf [(0, 17, 20, 21), (0, 17, 24, 13)]) {h : AH} {a0 : Nat} {x1 : Int32} {x2 : Int32} {a3 : Nat} {r : (Int32 × AH)} (hF : F_X0_story h a0 x1 x2 a3 = some r) : X cx 5 (zQ cx h0 (.inl (some (.int r.1))) r.2) h 0 [(0, .ref a0), (1, .int x1), (2, .int x2), (3, .ref a3)] [] := by
  refine x_aload_n hC dX0_story_0 3 rfl ?_
  refine x_iconst (v := 0) hC dX0_story_1 (by decide) ?_
  refine x_aload_n hC dX0_story_2 0 rfl ?_
  refine x_iload_n hC dX0_story_3 1 rfl ?_
  refine x_iload_n hC dX0_story_4 2 rfl ?_
  obtain ⟨g13, hF⟩ := gd_e hF
  rcases ec_e hF with ⟨v14, h15, e18, hF⟩ | ⟨E16, q_17, h15, e18, hF⟩
  · refine xk_VW (κ := 1) (As := [.int x1, .int x2]) (st := [.int 0, .ref a3]) hC (m_X1_story hC.fl e18) g13 rfl q1674 q1675 q1676 q1677 q97 hy_X1_story ⟨Nat.le_of_ble_eq_true rfl, Nat.le_of_ble_eq_true rfl⟩ (Nat.le_of_ble_eq_true rfl) rfl dX0_story_5 ?_
    refine x_if_eq (tgt := 15) hC dX0_story_8 (by decide) (fun u19 => ?_) (fun u19 => ?_)
    · have hF := it_t u19 hF
      refine x_lconst (v := 0) hC dX0_story_15 (by decide) ?_
      refine X.sub (lv' := []) [] rfl ?_
      exact w_X0_story_16 hC hE  hF
    · have hF := it_f u19 hF
      refine x_lconst (v := 1) hC dX0_story_11 (by decide) ?_
      refine x_goto (tgt := 16) hC dX0_story_12 (by decide) ?_
      refine X.sub (lv' := []) [] rfl ?_
      exact w_X0_story_16 hC hE  hF
  · refine xk_VW (κ := 1) (As := [.int x1, .int x2]) (st := [.int 0, .ref a3]) hC (mx_X1_story hC.fl e18) g13 rfl q1674 q1675 q1676 q1677 q97 hy_X1_story ⟨Nat.le_of_ble_eq_true rfl, Nat.le_of_ble_eq_true rfl⟩ (Nat.le_of_ble_eq_true rfl) rfl dX0_story_5 ?_
    by_cases u20 : E16 = 1
    · have hF := it_t u20 hF
      subst u20
      refine x_catch (E := zE 1) hC [⟨0, 17, 20, 21⟩] ⟨0, 17, 24, 13⟩ [] (hE.trans rfl) (List.forall_mem_cons.mpr ⟨Or.inr ⟨by decide, _, q725, nce_X0_1_java_util_NoSuchElementException hC⟩, fun _ h => absurd h List.not_mem_nil⟩) (by decide) (by decide) q485 q500 ?_
      refine X.sub (lv' := []) [] rfl ?_
      exact w_X0_story_24 hC hE  hF
    have hF := it_f u20 hF
    by_cases u21 : E16 = 3
    · have hF := it_t u21 hF
      subst u21
      refine x_catch (E := zE 3) hC [] ⟨0, 17, 20, 21⟩ [⟨0, 17, 24, 13⟩] (hE.trans rfl) (fun _ h => absurd h List.not_mem_nil) (by decide) (by decide) q725 q739 ?_
      refine X.sub (lv' := []) [] rfl ?_
      exact w_X0_story_20 hC hE  hF
    have hF := it_f u21 hF
    cases hF
theorem hy_X0_story : yX0_story.cls ≠ "java/lang/invoke/MethodHandle" ∧ yX0_story.cls ≠ "java/lang/invoke/VarHandle" ∧ (parseMethodDescriptor yX0_story.desc).map (fun d => d.parameters.length) = some 4 := by decide +kernel
theorem m_X0_story {Γ : zG} {l : Launch} (hfl : l.flags = flags0) {h : AH} {a0 : Nat} {x1 : Int32} {x2 : Int32} {a3 : Nat} {r : (Int32 × AH)} (hF : F_X0_story h a0 x1 x2 a3 = some r) : zM Γ l yX0_story (wsW_ yX0_story cX0_story 5 (some .int) [(0, 17, 20, 21), (0, 17, 24, 13)]) 11 10327 [.ref a0, .int x1, .int x2, .ref a3] h (.inl (some (.int r.1))) r.2 := z_ofH hfl (by decide) (Nat.le_of_ble_eq_true rfl) fun x hG hl hC hN hE => by subst hG; subst hl; exact w_X0_story hC hE hF
-- X0_fill
def B_X0_fill_21 (h : AH)  (t0 : Nat) : Option (Int32 × AH) := some (2, h)
def B_X0_fill_25 (h : AH)  (t0 : Nat) : Option (Int32 × AH) := some (3, h)
def B_X0_fill_17 (h : AH)  (t0 : Nat) : Option (Int32 × AH) := some (1, h)
def F_X0_fill (h : AH) (a0 : Nat) (x1 : Int32) (x2 : Int32) (x3 : Int32) (x4 : Int32) (a5 : Nat) : Option (Int32 × AH) := gd (hK h a0 = 1) (ec (F_X1_fill h a0 x1 x2 x3 x4) (fun v11 h12 => gd (hK h12 a5 = 102 ∧ inb 0 (hL h12 a5)) (lh (wJ h12 a5 (ix 0) (Int32.toInt64 v11)) fun h17 => some (0, h17))) (fun E13 q_14 h12 => if E13 = 1 then B_X0_fill_21 h12 q_14 else if E13 = 2 then B_X0_fill_25 h12 q_14 else if E13 = 3 then B_X0_fill_17 h12 q_14 else none))
theorem w_X0_fill_21 {cx : zX} {h0 : AH} (hC : Cx cx RX0 cX0_fill 7 11 10335 (some .int) h0) (hE : cx.c.exceptionTable.toList = tableOf [(0, 14, 17, 21), (0, 14, 21, 13), (0, 14, 25, 15)]) {h : AH} {r : (Int32 × AH)}   {t0 : Nat} (hF : B_X0_fill_21 h  t0 = some r) : X cx 7 (zQ cx h0 (.inl (some (.int r.1))) r.2) h 21 [] [.ref t0] := by
  refine x_astore (lv' := [(6, .ref t0)]) hC dX0_fill_21 (by decide) [0] rfl ?_
  refine x_iconst (v := 2) hC dX0_fill_23 (by decide) ?_
  have e := some_e hF
  subst e
  exact x_iret hC dX0_fill_24
theorem w_X0_fill_25 {cx : zX} {h0 : AH} (hC : Cx cx RX0 cX0_fill 7 11 10335 (some .int) h0) (hE : cx.c.exceptionTable.toList = tableOf [(0, 14, 17, 21), (0, 14, 21, 13), (0, 14, 25, 15)]) {h : AH} {r : (Int32 × AH)}   {t0 : Nat} (hF : B_X0_fill_25 h  t0 = some r) : X cx 7 (zQ cx h0 (.inl (some (.int r.1))) r.2) h 25 [] [.ref t0] := by
  refine x_astore (lv' := [(6, .ref t0)]) hC dX0_fill_25 (by decide) [0] rfl ?_
  refine x_iconst (v := 3) hC dX0_fill_27 (by decide) ?_
  have e := some_e hF
  subst e
  exact x_iret hC dX0_fill_28
theorem w_X0_fill_17 {cx : zX} {h0 : AH} (hC : Cx cx RX0 cX0_fill 7 11 10335 (some .int) h0) (hE : cx.c.exceptionTable.toList = tableOf [(0, 14, 17, 21), (0, 14, 21, 13), (0, 14, 25, 15)]) {h : AH} {r : (Int32 × AH)}   {t0 : Nat} (hF : B_X0_fill_17 h  t0 = some r) : X cx 7 (zQ cx h0 (.inl (some (.int r.1))) r.2) h 17 [] [.ref t0] := by
  refine x_astore (lv' := [(6, .ref t0)]) hC dX0_fill_17 (by decide) [0] rfl ?_
  refine x_iconst (v := 1) hC dX0_fill_19 (by decide) ?_
  have e := some_e hF
  subst e
  exact x_iret hC dX0_fill_20
theorem w_X0_fill {cx : zX} {h0 : AH} (hC : Cx cx RX0 cX0_fill 7 11 10335 (some .int) h0) (hE : cx.c.exceptionTable.toList = tableOf [(0, 14, 17, 21), (0, 14, 21, 13), (0, 14, 25, 15)]) {h : AH} {a0 : Nat} {x1 : Int32} {x2 : Int32} {x3 : Int32} {x4 : Int32} {a5 : Nat} {r : (Int32 × AH)} (hF : F_X0_fill h a0 x1 x2 x3 x4 a5 = some r) : X cx 7 (zQ cx h0 (.inl (some (.int r.1))) r.2) h 0 [(0, .ref a0), (1, .int x1), (2, .int x2), (3, .int x3), (4, .int x4), (5, .ref a5)] [] := by
  refine x_aload hC dX0_fill_0 5 rfl ?_
  refine x_iconst (v := 0) hC dX0_fill_2 (by decide) ?_
  refine x_aload_n hC dX0_fill_3 0 rfl ?_
  refine x_iload_n hC dX0_fill_4 1 rfl ?_
  refine x_iload_n hC dX0_fill_5 2 rfl ?_
  refine x_iload_n hC dX0_fill_6 3 rfl ?_
  refine x_iload hC dX0_fill_7 4 rfl ?_
  obtain ⟨g10, hF⟩ := gd_e hF
  rcases ec_e hF with ⟨v11, h12, e15, hF⟩ | ⟨E13, q_14, h12, e15, hF⟩
  · refine xk_VW (κ := 1) (As := [.int x1, .int x2, .int x3, .int x4]) (st := [.int 0, .ref a5]) hC (m_X1_fill hC.fl e15) g10 rfl q1731 q1732 q1733 q1734 q97 hy_X1_fill ⟨Nat.le_of_ble_eq_true rfl, Nat.le_of_ble_eq_true rfl⟩ (Nat.le_of_ble_eq_true rfl) rfl dX0_fill_9 ?_
    refine x_i2l hC dX0_fill_12 ?_
    obtain ⟨g16, hF⟩ := gd_e hF
    obtain ⟨h17, e18, hF⟩ := lh_e hF
    refine x_lastE hC e18 g16.1 g16.2 dX0_fill_13 ?_
    refine x_goto (tgt := 29) hC dX0_fill_14 (by decide) ?_
    refine x_iconst (v := 0) hC dX0_fill_29 (by decide) ?_
    have e := some_e hF
    subst e
    exact x_iret hC dX0_fill_30
  · refine xk_VW (κ := 1) (As := [.int x1, .int x2, .int x3, .int x4]) (st := [.int 0, .ref a5]) hC (mx_X1_fill hC.fl e15) g10 rfl q1731 q1732 q1733 q1734 q97 hy_X1_fill ⟨Nat.le_of_ble_eq_true rfl, Nat.le_of_ble_eq_true rfl⟩ (Nat.le_of_ble_eq_true rfl) rfl dX0_fill_9 ?_
    by_cases u19 : E13 = 1
    · have hF := it_t u19 hF
      subst u19
      refine x_catch (E := zE 1) hC [⟨0, 14, 17, 21⟩] ⟨0, 14, 21, 13⟩ [⟨0, 14, 25, 15⟩] (hE.trans rfl) (List.forall_mem_cons.mpr ⟨Or.inr ⟨by decide, _, q725, nce_X0_1_java_util_NoSuchElementException hC⟩, fun _ h => absurd h List.not_mem_nil⟩) (by decide) (by decide) q485 q500 ?_
      refine X.sub (lv' := []) [] rfl ?_
      exact w_X0_fill_21 hC hE  hF
    have hF := it_f u19 hF
    by_cases u20 : E13 = 2
    · have hF := it_t u20 hF
      subst u20
      refine x_catch (E := zE 2) hC [⟨0, 14, 17, 21⟩, ⟨0, 14, 21, 13⟩] ⟨0, 14, 25, 15⟩ [] (hE.trans rfl) (List.forall_mem_cons.mpr ⟨Or.inr ⟨by decide, _, q725, nce_X0_2_java_util_NoSuchElementException hC⟩, List.forall_mem_cons.mpr ⟨Or.inr ⟨by decide, _, q485, nce_X0_2_java_lang_IllegalStateException hC⟩, fun _ h => absurd h List.not_mem_nil⟩⟩) (by decide) (by decide) q486 q590 ?_
      refine X.sub (lv' := []) [] rfl ?_
      exact w_X0_fill_25 hC hE  hF
    have hF := it_f u20 hF
    by_cases u21 : E13 = 3
    · have hF := it_t u21 hF
      subst u21
      refine x_catch (E := zE 3) hC [] ⟨0, 14, 17, 21⟩ [⟨0, 14, 21, 13⟩, ⟨0, 14, 25, 15⟩] (hE.trans rfl) (fun _ h => absurd h List.not_mem_nil) (by decide) (by decide) q725 q739 ?_
      refine X.sub (lv' := []) [] rfl ?_
      exact w_X0_fill_17 hC hE  hF
    have hF := it_f u21 hF
    cases hF
theorem hy_X0_fill : yX0_fill.cls ≠ "java/lang/invoke/MethodHandle" ∧ yX0_fill.cls ≠ "java/lang/invoke/VarHandle" ∧ (parseMethodDescriptor yX0_fill.desc).map (fun d => d.parameters.length) = some 6 := by decide +kernel
theorem m_X0_fill {Γ : zG} {l : Launch} (hfl : l.flags = flags0) {h : AH} {a0 : Nat} {x1 : Int32} {x2 : Int32} {x3 : Int32} {x4 : Int32} {a5 : Nat} {r : (Int32 × AH)} (hF : F_X0_fill h a0 x1 x2 x3 x4 a5 = some r) : zM Γ l yX0_fill (wsW_ yX0_fill cX0_fill 7 (some .int) [(0, 14, 17, 21), (0, 14, 21, 13), (0, 14, 25, 15)]) 11 10335 [.ref a0, .int x1, .int x2, .int x3, .int x4, .ref a5] h (.inl (some (.int r.1))) r.2 := z_ofH hfl (by decide) (Nat.le_of_ble_eq_true rfl) fun x hG hl hC hN hE => by subst hG; subst hl; exact w_X0_fill hC hE hF
-- X0_of
def B_X0_of_16 (h : AH)  (t0 : Nat) : Option (Int32 × AH) := some (2, h)
def B_X0_of_12 (h : AH)  (t0 : Nat) : Option (Int32 × AH) := some (1, h)
def F_X0_of (h : AH) (a0 : Nat) (x1 : Int32) (x2 : Int32) (a3 : Nat) : Option (Int32 × AH) := gd (hK h a0 = 1) (ec (F_X1_of h a0 x1 x2) (fun v11 h12 => gd (hK h12 a3 = 102 ∧ inb 0 (hL h12 a3)) (lh (wJ h12 a3 (ix 0) v11) fun h17 => some (0, h17))) (fun E13 q_14 h12 => if E13 = 2 then B_X0_of_16 h12 q_14 else if E13 = 3 then B_X0_of_12 h12 q_14 else none))
theorem w_X0_of_16 {cx : zX} {h0 : AH} (hC : Cx cx RX0 cX0_of 5 9 154 (some .int) h0) (hE : cx.c.exceptionTable.toList = tableOf [(0, 9, 12, 21), (0, 9, 16, 15)]) {h : AH} {r : (Int32 × AH)}   {t0 : Nat} (hF : B_X0_of_16 h  t0 = some r) : X cx 5 (zQ cx h0 (.inl (some (.int r.1))) r.2) h 16 [] [.ref t0] := by
  refine x_astore (lv' := [(4, .ref t0)]) hC dX0_of_16 (by decide) [0] rfl ?_
  refine x_iconst (v := 2) hC dX0_of_18 (by decide) ?_
  have e := some_e hF
  subst e
  exact x_iret hC dX0_of_19
theorem w_X0_of_12 {cx : zX} {h0 : AH} (hC : Cx cx RX0 cX0_of 5 9 154 (some .int) h0) (hE : cx.c.exceptionTable.toList = tableOf [(0, 9, 12, 21), (0, 9, 16, 15)]) {h : AH} {r : (Int32 × AH)}   {t0 : Nat} (hF : B_X0_of_12 h  t0 = some r) : X cx 5 (zQ cx h0 (.inl (some (.int r.1))) r.2) h 12 [] [.ref t0] := by
  refine x_astore (lv' := [(4, .ref t0)]) hC dX0_of_12 (by decide) [0] rfl ?_
  refine x_iconst (v := 1) hC dX0_of_14 (by decide) ?_
  have e := some_e hF
  subst e
  exact x_iret hC dX0_of_15
theorem w_X0_of {cx : zX} {h0 : AH} (hC : Cx cx RX0 cX0_of 5 9 154 (some .int) h0) (hE : cx.c.exceptionTable.toList = tableOf [(0, 9, 12, 21), (0, 9, 16, 15)]) {h : AH} {a0 : Nat} {x1 : Int32} {x2 : Int32} {a3 : Nat} {r : (Int32 × AH)} (hF : F_X0_of h a0 x1 x2 a3 = some r) : X cx 5 (zQ cx h0 (.inl (some (.int r.1))) r.2) h 0 [(0, .ref a0), (1, .int x1), (2, .int x2), (3, .ref a3)] [] := by
  refine x_aload_n hC dX0_of_0 3 rfl ?_
  refine x_iconst (v := 0) hC dX0_of_1 (by decide) ?_
  refine x_aload_n hC dX0_of_2 0 rfl ?_
  refine x_iload_n hC dX0_of_3 1 rfl ?_
  refine x_iload_n hC dX0_of_4 2 rfl ?_
  obtain ⟨g10, hF⟩ := gd_e hF
  rcases ec_e hF with ⟨v11, h12, e15, hF⟩ | ⟨E13, q_14, h12, e15, hF⟩
  · refine xk_V (κ := 1) (As := [.int x1, .int x2]) (st := [.int 0, .ref a3]) hC (m_X1_of hC.fl e15) g10 rfl q1444 q1445 q1446 q1447 q97 hy_X1_of ⟨Nat.le_of_ble_eq_true rfl, Nat.le_of_ble_eq_true rfl⟩ (Nat.le_of_ble_eq_true rfl) rfl dX0_of_5 ?_
    obtain ⟨g16, hF⟩ := gd_e hF
    obtain ⟨h17, e18, hF⟩ := lh_e hF
    refine x_lastE hC e18 g16.1 g16.2 dX0_of_8 ?_
    refine x_goto (tgt := 20) hC dX0_of_9 (by decide) ?_
    refine x_iconst (v := 0) hC dX0_of_20 (by decide) ?_
    have e := some_e hF
    subst e
    exact x_iret hC dX0_of_21
  · refine xk_V (κ := 1) (As := [.int x1, .int x2]) (st := [.int 0, .ref a3]) hC (mx_X1_of hC.fl e15) g10 rfl q1444 q1445 q1446 q1447 q97 hy_X1_of ⟨Nat.le_of_ble_eq_true rfl, Nat.le_of_ble_eq_true rfl⟩ (Nat.le_of_ble_eq_true rfl) rfl dX0_of_5 ?_
    by_cases u19 : E13 = 2
    · have hF := it_t u19 hF
      subst u19
      refine x_catch (E := zE 2) hC [⟨0, 9, 12, 21⟩] ⟨0, 9, 16, 15⟩ [] (hE.trans rfl) (List.forall_mem_cons.mpr ⟨Or.inr ⟨by decide, _, q725, nce_X0_2_java_util_NoSuchElementException hC⟩, fun _ h => absurd h List.not_mem_nil⟩) (by decide) (by decide) q486 q590 ?_
      refine X.sub (lv' := []) [] rfl ?_
      exact w_X0_of_16 hC hE  hF
    have hF := it_f u19 hF
    by_cases u20 : E13 = 3
    · have hF := it_t u20 hF
      subst u20
      refine x_catch (E := zE 3) hC [] ⟨0, 9, 12, 21⟩ [⟨0, 9, 16, 15⟩] (hE.trans rfl) (fun _ h => absurd h List.not_mem_nil) (by decide) (by decide) q725 q739 ?_
      refine X.sub (lv' := []) [] rfl ?_
      exact w_X0_of_12 hC hE  hF
    have hF := it_f u20 hF
    cases hF
theorem hy_X0_of : yX0_of.cls ≠ "java/lang/invoke/MethodHandle" ∧ yX0_of.cls ≠ "java/lang/invoke/VarHandle" ∧ (parseMethodDescriptor yX0_of.desc).map (fun d => d.parameters.length) = some 4 := by decide +kernel
theorem m_X0_of {Γ : zG} {l : Launch} (hfl : l.flags = flags0) {h : AH} {a0 : Nat} {x1 : Int32} {x2 : Int32} {a3 : Nat} {r : (Int32 × AH)} (hF : F_X0_of h a0 x1 x2 a3 = some r) : zM Γ l yX0_of (wsW_ yX0_of cX0_of 5 (some .int) [(0, 9, 12, 21), (0, 9, 16, 15)]) 9 154 [.ref a0, .int x1, .int x2, .ref a3] h (.inl (some (.int r.1))) r.2 := z_ofH hfl (by decide) (Nat.le_of_ble_eq_true rfl) fun x hG hl hC hN hE => by subst hG; subst hl; exact w_X0_of hC hE hF
-- X0_fills
def B_X0_fills_12 (h : AH)  (t0 : Nat) : Option (Int32 × AH) := some (1, h)
def F_X0_fills (h : AH) (a0 : Nat) (x1 : Int32) (a2 : Nat) : Option (Int32 × AH) := gd (hK h a0 = 1) (ec (F_X1_fills h a0 x1) (fun v11 h12 => gd (hK h12 a2 = 102 ∧ inb 0 (hL h12 a2)) (lh (wJ h12 a2 (ix 0) (Int32.toInt64 v11)) fun h17 => some (0, h17))) (fun E13 q_14 h12 => if E13 = 3 then B_X0_fills_12 h12 q_14 else none))
theorem w_X0_fills_12 {cx : zX} {h0 : AH} (hC : Cx cx RX0 cX0_fills 4 8 131 (some .int) h0) (hE : cx.c.exceptionTable.toList = tableOf [(0, 9, 12, 21)]) {h : AH} {r : (Int32 × AH)}   {t0 : Nat} (hF : B_X0_fills_12 h  t0 = some r) : X cx 4 (zQ cx h0 (.inl (some (.int r.1))) r.2) h 12 [] [.ref t0] := by
  refine x_astore_n (lv' := [(3, .ref t0)]) hC dX0_fills_12 (by decide) [0] rfl ?_
  refine x_iconst (v := 1) hC dX0_fills_13 (by decide) ?_
  have e := some_e hF
  subst e
  exact x_iret hC dX0_fills_14
theorem w_X0_fills {cx : zX} {h0 : AH} (hC : Cx cx RX0 cX0_fills 4 8 131 (some .int) h0) (hE : cx.c.exceptionTable.toList = tableOf [(0, 9, 12, 21)]) {h : AH} {a0 : Nat} {x1 : Int32} {a2 : Nat} {r : (Int32 × AH)} (hF : F_X0_fills h a0 x1 a2 = some r) : X cx 4 (zQ cx h0 (.inl (some (.int r.1))) r.2) h 0 [(0, .ref a0), (1, .int x1), (2, .ref a2)] [] := by
  refine x_aload_n hC dX0_fills_0 2 rfl ?_
  refine x_iconst (v := 0) hC dX0_fills_1 (by decide) ?_
  refine x_aload_n hC dX0_fills_2 0 rfl ?_
  refine x_iload_n hC dX0_fills_3 1 rfl ?_
  obtain ⟨g10, hF⟩ := gd_e hF
  rcases ec_e hF with ⟨v11, h12, e15, hF⟩ | ⟨E13, q_14, h12, e15, hF⟩
  · refine xk_V (κ := 1) (As := [.int x1]) (st := [.int 0, .ref a2]) hC (m_X1_fills hC.fl e15) g10 rfl q1453 q1454 q1455 q1456 q97 hy_X1_fills ⟨Nat.le_of_ble_eq_true rfl, Nat.le_of_ble_eq_true rfl⟩ (Nat.le_of_ble_eq_true rfl) rfl dX0_fills_4 ?_
    refine x_i2l hC dX0_fills_7 ?_
    obtain ⟨g16, hF⟩ := gd_e hF
    obtain ⟨h17, e18, hF⟩ := lh_e hF
    refine x_lastE hC e18 g16.1 g16.2 dX0_fills_8 ?_
    refine x_goto (tgt := 15) hC dX0_fills_9 (by decide) ?_
    refine x_iconst (v := 0) hC dX0_fills_15 (by decide) ?_
    have e := some_e hF
    subst e
    exact x_iret hC dX0_fills_16
  · refine xk_V (κ := 1) (As := [.int x1]) (st := [.int 0, .ref a2]) hC (mx_X1_fills hC.fl e15) g10 rfl q1453 q1454 q1455 q1456 q97 hy_X1_fills ⟨Nat.le_of_ble_eq_true rfl, Nat.le_of_ble_eq_true rfl⟩ (Nat.le_of_ble_eq_true rfl) rfl dX0_fills_4 ?_
    by_cases u19 : E13 = 3
    · have hF := it_t u19 hF
      subst u19
      refine x_catch (E := zE 3) hC [] ⟨0, 9, 12, 21⟩ [] (hE.trans rfl) (fun _ h => absurd h List.not_mem_nil) (by decide) (by decide) q725 q739 ?_
      refine X.sub (lv' := []) [] rfl ?_
      exact w_X0_fills_12 hC hE  hF
    have hF := it_f u19 hF
    cases hF
theorem hy_X0_fills : yX0_fills.cls ≠ "java/lang/invoke/MethodHandle" ∧ yX0_fills.cls ≠ "java/lang/invoke/VarHandle" ∧ (parseMethodDescriptor yX0_fills.desc).map (fun d => d.parameters.length) = some 3 := by decide +kernel
theorem m_X0_fills {Γ : zG} {l : Launch} (hfl : l.flags = flags0) {h : AH} {a0 : Nat} {x1 : Int32} {a2 : Nat} {r : (Int32 × AH)} (hF : F_X0_fills h a0 x1 a2 = some r) : zM Γ l yX0_fills (wsW_ yX0_fills cX0_fills 4 (some .int) [(0, 9, 12, 21)]) 8 131 [.ref a0, .int x1, .ref a2] h (.inl (some (.int r.1))) r.2 := z_ofH hfl (by decide) (Nat.le_of_ble_eq_true rfl) fun x hG hl hC hN hE => by subst hG; subst hl; exact w_X0_fills hC hE hF
-- X0_leads
def B_X0_leads_13 (h : AH)  (t0 : Nat) : Option (Int32 × AH) := some (1, h)
def F_X0_leads (h : AH) (a0 : Nat) (x1 : Int32) (x2 : Int32) (a3 : Nat) : Option (Int32 × AH) := gd (hK h a0 = 1) (ec (F_X1_leads h a0 x1 x2) (fun v11 h12 => gd (hK h12 a3 = 102 ∧ inb 0 (hL h12 a3)) (lh (wJ h12 a3 (ix 0) (Int32.toInt64 v11)) fun h17 => some (0, h17))) (fun E13 q_14 h12 => if E13 = 3 then B_X0_leads_13 h12 q_14 else none))
theorem w_X0_leads_13 {cx : zX} {h0 : AH} (hC : Cx cx RX0 cX0_leads 5 9 155 (some .int) h0) (hE : cx.c.exceptionTable.toList = tableOf [(0, 10, 13, 21)]) {h : AH} {r : (Int32 × AH)}   {t0 : Nat} (hF : B_X0_leads_13 h  t0 = some r) : X cx 5 (zQ cx h0 (.inl (some (.int r.1))) r.2) h 13 [] [.ref t0] := by
  refine x_astore (lv' := [(4, .ref t0)]) hC dX0_leads_13 (by decide) [0] rfl ?_
  refine x_iconst (v := 1) hC dX0_leads_15 (by decide) ?_
  have e := some_e hF
  subst e
  exact x_iret hC dX0_leads_16
theorem w_X0_leads {cx : zX} {h0 : AH} (hC : Cx cx RX0 cX0_leads 5 9 155 (some .int) h0) (hE : cx.c.exceptionTable.toList = tableOf [(0, 10, 13, 21)]) {h : AH} {a0 : Nat} {x1 : Int32} {x2 : Int32} {a3 : Nat} {r : (Int32 × AH)} (hF : F_X0_leads h a0 x1 x2 a3 = some r) : X cx 5 (zQ cx h0 (.inl (some (.int r.1))) r.2) h 0 [(0, .ref a0), (1, .int x1), (2, .int x2), (3, .ref a3)] [] := by
  refine x_aload_n hC dX0_leads_0 3 rfl ?_
  refine x_iconst (v := 0) hC dX0_leads_1 (by decide) ?_
  refine x_aload_n hC dX0_leads_2 0 rfl ?_
  refine x_iload_n hC dX0_leads_3 1 rfl ?_
  refine x_iload_n hC dX0_leads_4 2 rfl ?_
  obtain ⟨g10, hF⟩ := gd_e hF
  rcases ec_e hF with ⟨v11, h12, e15, hF⟩ | ⟨E13, q_14, h12, e15, hF⟩
  · refine xk_V (κ := 1) (As := [.int x1, .int x2]) (st := [.int 0, .ref a3]) hC (m_X1_leads hC.fl e15) g10 rfl q1464 q1465 q1466 q1467 q97 hy_X1_leads ⟨Nat.le_of_ble_eq_true rfl, Nat.le_of_ble_eq_true rfl⟩ (Nat.le_of_ble_eq_true rfl) rfl dX0_leads_5 ?_
    refine x_i2l hC dX0_leads_8 ?_
    obtain ⟨g16, hF⟩ := gd_e hF
    obtain ⟨h17, e18, hF⟩ := lh_e hF
    refine x_lastE hC e18 g16.1 g16.2 dX0_leads_9 ?_
    refine x_goto (tgt := 17) hC dX0_leads_10 (by decide) ?_
    refine x_iconst (v := 0) hC dX0_leads_17 (by decide) ?_
    have e := some_e hF
    subst e
    exact x_iret hC dX0_leads_18
  · refine xk_V (κ := 1) (As := [.int x1, .int x2]) (st := [.int 0, .ref a3]) hC (mx_X1_leads hC.fl e15) g10 rfl q1464 q1465 q1466 q1467 q97 hy_X1_leads ⟨Nat.le_of_ble_eq_true rfl, Nat.le_of_ble_eq_true rfl⟩ (Nat.le_of_ble_eq_true rfl) rfl dX0_leads_5 ?_
    by_cases u19 : E13 = 3
    · have hF := it_t u19 hF
      subst u19
      refine x_catch (E := zE 3) hC [] ⟨0, 10, 13, 21⟩ [] (hE.trans rfl) (fun _ h => absurd h List.not_mem_nil) (by decide) (by decide) q725 q739 ?_
      refine X.sub (lv' := []) [] rfl ?_
      exact w_X0_leads_13 hC hE  hF
    have hF := it_f u19 hF
    cases hF
theorem hy_X0_leads : yX0_leads.cls ≠ "java/lang/invoke/MethodHandle" ∧ yX0_leads.cls ≠ "java/lang/invoke/VarHandle" ∧ (parseMethodDescriptor yX0_leads.desc).map (fun d => d.parameters.length) = some 4 := by decide +kernel
theorem m_X0_leads {Γ : zG} {l : Launch} (hfl : l.flags = flags0) {h : AH} {a0 : Nat} {x1 : Int32} {x2 : Int32} {a3 : Nat} {r : (Int32 × AH)} (hF : F_X0_leads h a0 x1 x2 a3 = some r) : zM Γ l yX0_leads (wsW_ yX0_leads cX0_leads 5 (some .int) [(0, 10, 13, 21)]) 9 155 [.ref a0, .int x1, .int x2, .ref a3] h (.inl (some (.int r.1))) r.2 := z_ofH hfl (by decide) (Nat.le_of_ble_eq_true rfl) fun x hG hl hC hN hE => by subst hG; subst hl; exact w_X0_leads hC hE hF
-- X0_gain
def B_X0_gain_23 (h : AH)  (t0 : Nat) : Option (Int32 × AH) := some (2, h)
def B_X0_gain_19 (h : AH)  (t0 : Nat) : Option (Int32 × AH) := some (1, h)
def B_X0_gain_27 (h : AH)  (t0 : Nat) : Option (Int32 × AH) := some (3, h)
def F_X0_gain (h : AH) (a0 : Nat) (x1 : Int32) (x2 : Int32) (x3 : Int32) (x4 : Int32) (x5 : Int32) (a6 : Nat) : Option (Int32 × AH) := gd (hK h a0 = 1) (ec (F_X1_gain h a0 x1 x2 x3 x4 x5) (fun v11 h12 => gd (hK h12 a6 = 102 ∧ inb 0 (hL h12 a6)) (lh (wJ h12 a6 (ix 0) (Int32.toInt64 v11)) fun h17 => some (0, h17))) (fun E13 q_14 h12 => if E13 = 2 then B_X0_gain_23 h12 q_14 else if E13 = 3 then B_X0_gain_19 h12 q_14 else if E13 = 4 then B_X0_gain_27 h12 q_14 else none))
theorem w_X0_gain_23 {cx : zX} {h0 : AH} (hC : Cx cx RX0 cX0_gain 8 10 178 (some .int) h0) (hE : cx.c.exceptionTable.toList = tableOf [(0, 16, 19, 21), (0, 16, 23, 15), (0, 16, 27, 71)]) {h : AH} {r : (Int32 × AH)}   {t0 : Nat} (hF : B_X0_gain_23 h  t0 = some r) : X cx 8 (zQ cx h0 (.inl (some (.int r.1))) r.2) h 23 [] [.ref t0] := by
  refine x_astore (lv' := [(7, .ref t0)]) hC dX0_gain_23 (by decide) [0] rfl ?_
  refine x_iconst (v := 2) hC dX0_gain_25 (by decide) ?_
  have e := some_e hF
  subst e
  exact x_iret hC dX0_gain_26
theorem w_X0_gain_19 {cx : zX} {h0 : AH} (hC : Cx cx RX0 cX0_gain 8 10 178 (some .int) h0) (hE : cx.c.exceptionTable.toList = tableOf [(0, 16, 19, 21), (0, 16, 23, 15), (0, 16, 27, 71)]) {h : AH} {r : (Int32 × AH)}   {t0 : Nat} (hF : B_X0_gain_19 h  t0 = some r) : X cx 8 (zQ cx h0 (.inl (some (.int r.1))) r.2) h 19 [] [.ref t0] := by
  refine x_astore (lv' := [(7, .ref t0)]) hC dX0_gain_19 (by decide) [0] rfl ?_
  refine x_iconst (v := 1) hC dX0_gain_21 (by decide) ?_
  have e := some_e hF
  subst e
  exact x_iret hC dX0_gain_22
theorem w_X0_gain_27 {cx : zX} {h0 : AH} (hC : Cx cx RX0 cX0_gain 8 10 178 (some .int) h0) (hE : cx.c.exceptionTable.toList = tableOf [(0, 16, 19, 21), (0, 16, 23, 15), (0, 16, 27, 71)]) {h : AH} {r : (Int32 × AH)}   {t0 : Nat} (hF : B_X0_gain_27 h  t0 = some r) : X cx 8 (zQ cx h0 (.inl (some (.int r.1))) r.2) h 27 [] [.ref t0] := by
  refine x_astore (lv' := [(7, .ref t0)]) hC dX0_gain_27 (by decide) [0] rfl ?_
  refine x_iconst (v := 3) hC dX0_gain_29 (by decide) ?_
  have e := some_e hF
  subst e
  exact x_iret hC dX0_gain_30
theorem w_X0_gain {cx : zX} {h0 : AH} (hC : Cx cx RX0 cX0_gain 8 10 178 (some .int) h0) (hE : cx.c.exceptionTable.toList = tableOf [(0, 16, 19, 21), (0, 16, 23, 15), (0, 16, 27, 71)]) {h : AH} {a0 : Nat} {x1 : Int32} {x2 : Int32} {x3 : Int32} {x4 : Int32} {x5 : Int32} {a6 : Nat} {r : (Int32 × AH)} (hF : F_X0_gain h a0 x1 x2 x3 x4 x5 a6 = some r) : X cx 8 (zQ cx h0 (.inl (some (.int r.1))) r.2) h 0 [(0, .ref a0), (1, .int x1), (2, .int x2), (3, .int x3), (4, .int x4), (5, .int x5), (6, .ref a6)] [] := by
  refine x_aload hC dX0_gain_0 6 rfl ?_
  refine x_iconst (v := 0) hC dX0_gain_2 (by decide) ?_
  refine x_aload_n hC dX0_gain_3 0 rfl ?_
  refine x_iload_n hC dX0_gain_4 1 rfl ?_
  refine x_iload_n hC dX0_gain_5 2 rfl ?_
  refine x_iload_n hC dX0_gain_6 3 rfl ?_
  refine x_iload hC dX0_gain_7 4 rfl ?_
  refine x_iload hC dX0_gain_9 5 rfl ?_
  obtain ⟨g10, hF⟩ := gd_e hF
  rcases ec_e hF with ⟨v11, h12, e15, hF⟩ | ⟨E13, q_14, h12, e15, hF⟩
  · refine xk_V (κ := 1) (As := [.int x1, .int x2, .int x3, .int x4, .int x5]) (st := [.int 0, .ref a6]) hC (m_X1_gain hC.fl e15) g10 rfl q1533 q1534 q1535 q1536 q97 hy_X1_gain ⟨Nat.le_of_ble_eq_true rfl, Nat.le_of_ble_eq_true rfl⟩ (Nat.le_of_ble_eq_true rfl) rfl dX0_gain_11 ?_
    refine x_i2l hC dX0_gain_14 ?_
    obtain ⟨g16, hF⟩ := gd_e hF
    obtain ⟨h17, e18, hF⟩ := lh_e hF
    refine x_lastE hC e18 g16.1 g16.2 dX0_gain_15 ?_
    refine x_goto (tgt := 31) hC dX0_gain_16 (by decide) ?_
    refine x_iconst (v := 0) hC dX0_gain_31 (by decide) ?_
    have e := some_e hF
    subst e
    exact x_iret hC dX0_gain_32
  · refine xk_V (κ := 1) (As := [.int x1, .int x2, .int x3, .int x4, .int x5]) (st := [.int 0, .ref a6]) hC (mx_X1_gain hC.fl e15) g10 rfl q1533 q1534 q1535 q1536 q97 hy_X1_gain ⟨Nat.le_of_ble_eq_true rfl, Nat.le_of_ble_eq_true rfl⟩ (Nat.le_of_ble_eq_true rfl) rfl dX0_gain_11 ?_
    by_cases u19 : E13 = 2
    · have hF := it_t u19 hF
      subst u19
      refine x_catch (E := zE 2) hC [⟨0, 16, 19, 21⟩] ⟨0, 16, 23, 15⟩ [⟨0, 16, 27, 71⟩] (hE.trans rfl) (List.forall_mem_cons.mpr ⟨Or.inr ⟨by decide, _, q725, nce_X0_2_java_util_NoSuchElementException hC⟩, fun _ h => absurd h List.not_mem_nil⟩) (by decide) (by decide) q486 q590 ?_
      refine X.sub (lv' := []) [] rfl ?_
      exact w_X0_gain_23 hC hE  hF
    have hF := it_f u19 hF
    by_cases u20 : E13 = 3
    · have hF := it_t u20 hF
      subst u20
      refine x_catch (E := zE 3) hC [] ⟨0, 16, 19, 21⟩ [⟨0, 16, 23, 15⟩, ⟨0, 16, 27, 71⟩] (hE.trans rfl) (fun _ h => absurd h List.not_mem_nil) (by decide) (by decide) q725 q739 ?_
      refine X.sub (lv' := []) [] rfl ?_
      exact w_X0_gain_19 hC hE  hF
    have hF := it_f u20 hF
    by_cases u21 : E13 = 4
    · have hF := it_t u21 hF
      subst u21
      refine x_catch (E := zE 4) hC [⟨0, 16, 19, 21⟩, ⟨0, 16, 23, 15⟩] ⟨0, 16, 27, 71⟩ [] (hE.trans rfl) (List.forall_mem_cons.mpr ⟨Or.inr ⟨by decide, _, q725, nce_X0_4_java_util_NoSuchElementException hC⟩, List.forall_mem_cons.mpr ⟨Or.inr ⟨by decide, _, q486, nce_X0_4_java_lang_IllegalArgumentException hC⟩, fun _ h => absurd h List.not_mem_nil⟩⟩) (by decide) (by decide) q1501 q1550 ?_
      refine X.sub (lv' := []) [] rfl ?_
      exact w_X0_gain_27 hC hE  hF
    have hF := it_f u21 hF
    cases hF
theorem hy_X0_gain : yX0_gain.cls ≠ "java/lang/invoke/MethodHandle" ∧ yX0_gain.cls ≠ "java/lang/invoke/VarHandle" ∧ (parseMethodDescriptor yX0_gain.desc).map (fun d => d.parameters.length) = some 7 := by decide +kernel
theorem m_X0_gain {Γ : zG} {l : Launch} (hfl : l.flags = flags0) {h : AH} {a0 : Nat} {x1 : Int32} {x2 : Int32} {x3 : Int32} {x4 : Int32} {x5 : Int32} {a6 : Nat} {r : (Int32 × AH)} (hF : F_X0_gain h a0 x1 x2 x3 x4 x5 a6 = some r) : zM Γ l yX0_gain (wsW_ yX0_gain cX0_gain 8 (some .int) [(0, 16, 19, 21), (0, 16, 23, 15), (0, 16, 27, 71)]) 10 178 [.ref a0, .int x1, .int x2, .int x3, .int x4, .int x5, .ref a6] h (.inl (some (.int r.1))) r.2 := z_ofH hfl (by decide) (Nat.le_of_ble_eq_true rfl) fun x hG hl hC hN hE => by subst hG; subst hl; exact w_X0_gain hC hE hF
-- X0_turn
def B_X0_turn_23 (h : AH)  (t0 : Nat) : Option (Int32 × AH) := some (2, h)
def B_X0_turn_19 (h : AH)  (t0 : Nat) : Option (Int32 × AH) := some (1, h)
def B_X0_turn_27 (h : AH)  (t0 : Nat) : Option (Int32 × AH) := some (3, h)
def F_X0_turn (h : AH) (a0 : Nat) (x1 : Int32) (x2 : Int32) (x3 : Int32) (x4 : Int32) (x5 : Int32) (a6 : Nat) : Option (Int32 × AH) := gd (hK h a0 = 1) (ec (F_X1_turn h a0 x1 x2 x3 x4 x5) (fun v11 h12 => gd (hK h12 a6 = 102 ∧ inb 0 (hL h12 a6)) (lh (wJ h12 a6 (ix 0) (Int32.toInt64 v11)) fun h17 => some (0, h17))) (fun E13 q_14 h12 => if E13 = 2 then B_X0_turn_23 h12 q_14 else if E13 = 3 then B_X0_turn_19 h12 q_14 else if E13 = 4 then B_X0_turn_27 h12 q_14 else none))
theorem w_X0_turn_23 {cx : zX} {h0 : AH} (hC : Cx cx RX0 cX0_turn 8 11 204 (some .int) h0) (hE : cx.c.exceptionTable.toList = tableOf [(0, 16, 19, 21), (0, 16, 23, 15), (0, 16, 27, 71)]) {h : AH} {r : (Int32 × AH)}   {t0 : Nat} (hF : B_X0_turn_23 h  t0 = some r) : X cx 8 (zQ cx h0 (.inl (some (.int r.1))) r.2) h 23 [] [.ref t0] := by
  refine x_astore (lv' := [(7, .ref t0)]) hC dX0_turn_23 (by decide) [0] rfl ?_
  refine x_iconst (v := 2) hC dX0_turn_25 (by decide) ?_
  have e := some_e hF
  subst e
  exact x_iret hC dX0_turn_26
theorem w_X0_turn_19 {cx : zX} {h0 : AH} (hC : Cx cx RX0 cX0_turn 8 11 204 (some .int) h0) (hE : cx.c.exceptionTable.toList = tableOf [(0, 16, 19, 21), (0, 16, 23, 15), (0, 16, 27, 71)]) {h : AH} {r : (Int32 × AH)}   {t0 : Nat} (hF : B_X0_turn_19 h  t0 = some r) : X cx 8 (zQ cx h0 (.inl (some (.int r.1))) r.2) h 19 [] [.ref t0] := by
  refine x_astore (lv' := [(7, .ref t0)]) hC dX0_turn_19 (by decide) [0] rfl ?_
  refine x_iconst (v := 1) hC dX0_turn_21 (by decide) ?_
  have e := some_e hF
  subst e
  exact x_iret hC dX0_turn_22
theorem w_X0_turn_27 {cx : zX} {h0 : AH} (hC : Cx cx RX0 cX0_turn 8 11 204 (some .int) h0) (hE : cx.c.exceptionTable.toList = tableOf [(0, 16, 19, 21), (0, 16, 23, 15), (0, 16, 27, 71)]) {h : AH} {r : (Int32 × AH)}   {t0 : Nat} (hF : B_X0_turn_27 h  t0 = some r) : X cx 8 (zQ cx h0 (.inl (some (.int r.1))) r.2) h 27 [] [.ref t0] := by
  refine x_astore (lv' := [(7, .ref t0)]) hC dX0_turn_27 (by decide) [0] rfl ?_
  refine x_iconst (v := 3) hC dX0_turn_29 (by decide) ?_
  have e := some_e hF
  subst e
  exact x_iret hC dX0_turn_30
theorem w_X0_turn {cx : zX} {h0 : AH} (hC : Cx cx RX0 cX0_turn 8 11 204 (some .int) h0) (hE : cx.c.exceptionTable.toList = tableOf [(0, 16, 19, 21), (0, 16, 23, 15), (0, 16, 27, 71)]) {h : AH} {a0 : Nat} {x1 : Int32} {x2 : Int32} {x3 : Int32} {x4 : Int32} {x5 : Int32} {a6 : Nat} {r : (Int32 × AH)} (hF : F_X0_turn h a0 x1 x2 x3 x4 x5 a6 = some r) : X cx 8 (zQ cx h0 (.inl (some (.int r.1))) r.2) h 0 [(0, .ref a0), (1, .int x1), (2, .int x2), (3, .int x3), (4, .int x4), (5, .int x5), (6, .ref a6)] [] := by
  refine x_aload hC dX0_turn_0 6 rfl ?_
  refine x_iconst (v := 0) hC dX0_turn_2 (by decide) ?_
  refine x_aload_n hC dX0_turn_3 0 rfl ?_
  refine x_iload_n hC dX0_turn_4 1 rfl ?_
  refine x_iload_n hC dX0_turn_5 2 rfl ?_
  refine x_iload_n hC dX0_turn_6 3 rfl ?_
  refine x_iload hC dX0_turn_7 4 rfl ?_
  refine x_iload hC dX0_turn_9 5 rfl ?_
  obtain ⟨g10, hF⟩ := gd_e hF
  rcases ec_e hF with ⟨v11, h12, e15, hF⟩ | ⟨E13, q_14, h12, e15, hF⟩
  · refine xk_V (κ := 1) (As := [.int x1, .int x2, .int x3, .int x4, .int x5]) (st := [.int 0, .ref a6]) hC (m_X1_turn hC.fl e15) g10 rfl q1607 q1608 q1609 q1610 q97 hy_X1_turn ⟨Nat.le_of_ble_eq_true rfl, Nat.le_of_ble_eq_true rfl⟩ (Nat.le_of_ble_eq_true rfl) rfl dX0_turn_11 ?_
    refine x_i2l hC dX0_turn_14 ?_
    obtain ⟨g16, hF⟩ := gd_e hF
    obtain ⟨h17, e18, hF⟩ := lh_e hF
    refine x_lastE hC e18 g16.1 g16.2 dX0_turn_15 ?_
    refine x_goto (tgt := 31) hC dX0_turn_16 (by decide) ?_
    refine x_iconst (v := 0) hC dX0_turn_31 (by decide) ?_
    have e := some_e hF
    subst e
    exact x_iret hC dX0_turn_32
  · refine xk_V (κ := 1) (As := [.int x1, .int x2, .int x3, .int x4, .int x5]) (st := [.int 0, .ref a6]) hC (mx_X1_turn hC.fl e15) g10 rfl q1607 q1608 q1609 q1610 q97 hy_X1_turn ⟨Nat.le_of_ble_eq_true rfl, Nat.le_of_ble_eq_true rfl⟩ (Nat.le_of_ble_eq_true rfl) rfl dX0_turn_11 ?_
    by_cases u19 : E13 = 2
    · have hF := it_t u19 hF
      subst u19
      refine x_catch (E := zE 2) hC [⟨0, 16, 19, 21⟩] ⟨0, 16, 23, 15⟩ [⟨0, 16, 27, 71⟩] (hE.trans rfl) (List.forall_mem_cons.mpr ⟨Or.inr ⟨by decide, _, q725, nce_X0_2_java_util_NoSuchElementException hC⟩, fun _ h => absurd h List.not_mem_nil⟩) (by decide) (by decide) q486 q590 ?_
      refine X.sub (lv' := []) [] rfl ?_
      exact w_X0_turn_23 hC hE  hF
    have hF := it_f u19 hF
    by_cases u20 : E13 = 3
    · have hF := it_t u20 hF
      subst u20
      refine x_catch (E := zE 3) hC [] ⟨0, 16, 19, 21⟩ [⟨0, 16, 23, 15⟩, ⟨0, 16, 27, 71⟩] (hE.trans rfl) (fun _ h => absurd h List.not_mem_nil) (by decide) (by decide) q725 q739 ?_
      refine X.sub (lv' := []) [] rfl ?_
      exact w_X0_turn_19 hC hE  hF
    have hF := it_f u20 hF
    by_cases u21 : E13 = 4
    · have hF := it_t u21 hF
      subst u21
      refine x_catch (E := zE 4) hC [⟨0, 16, 19, 21⟩, ⟨0, 16, 23, 15⟩] ⟨0, 16, 27, 71⟩ [] (hE.trans rfl) (List.forall_mem_cons.mpr ⟨Or.inr ⟨by decide, _, q725, nce_X0_4_java_util_NoSuchElementException hC⟩, List.forall_mem_cons.mpr ⟨Or.inr ⟨by decide, _, q486, nce_X0_4_java_lang_IllegalArgumentException hC⟩, fun _ h => absurd h List.not_mem_nil⟩⟩) (by decide) (by decide) q1501 q1550 ?_
      refine X.sub (lv' := []) [] rfl ?_
      exact w_X0_turn_27 hC hE  hF
    have hF := it_f u21 hF
    cases hF
theorem hy_X0_turn : yX0_turn.cls ≠ "java/lang/invoke/MethodHandle" ∧ yX0_turn.cls ≠ "java/lang/invoke/VarHandle" ∧ (parseMethodDescriptor yX0_turn.desc).map (fun d => d.parameters.length) = some 7 := by decide +kernel
theorem m_X0_turn {Γ : zG} {l : Launch} (hfl : l.flags = flags0) {h : AH} {a0 : Nat} {x1 : Int32} {x2 : Int32} {x3 : Int32} {x4 : Int32} {x5 : Int32} {a6 : Nat} {r : (Int32 × AH)} (hF : F_X0_turn h a0 x1 x2 x3 x4 x5 a6 = some r) : zM Γ l yX0_turn (wsW_ yX0_turn cX0_turn 8 (some .int) [(0, 16, 19, 21), (0, 16, 23, 15), (0, 16, 27, 71)]) 11 204 [.ref a0, .int x1, .int x2, .int x3, .int x4, .int x5, .ref a6] h (.inl (some (.int r.1))) r.2 := z_ofH hfl (by decide) (Nat.le_of_ble_eq_true rfl) fun x hG hl hC hN hE => by subst hG; subst hl; exact w_X0_turn hC hE hF
-- X0_learn
def B_X0_learn_21 (h : AH)  (t0 : Nat) : Option (Int32 × AH) := some (2, h)
def B_X0_learn_17 (h : AH)  (t0 : Nat) : Option (Int32 × AH) := some (1, h)
def F_X0_learn (h : AH) (a0 : Nat) (x1 : Int32) (x2 : Int32) (x3 : Int32) (x4 : Int32) (a5 : Nat) : Option (Int32 × AH) := gd (hK h a0 = 1) (ec (F_X1_learn h a0 x1 x2 x3 x4) (fun v11 h12 => gd (hK h12 a5 = 102 ∧ inb 0 (hL h12 a5)) (lh (wJ h12 a5 (ix 0) (Int32.toInt64 v11)) fun h17 => some (0, h17))) (fun E13 q_14 h12 => if E13 = 2 then B_X0_learn_21 h12 q_14 else if E13 = 3 then B_X0_learn_17 h12 q_14 else none))
theorem w_X0_learn_21 {cx : zX} {h0 : AH} (hC : Cx cx RX0 cX0_learn 7 10 177 (some .int) h0) (hE : cx.c.exceptionTable.toList = tableOf [(0, 14, 17, 21), (0, 14, 21, 15)]) {h : AH} {r : (Int32 × AH)}   {t0 : Nat} (hF : B_X0_learn_21 h  t0 = some r) : X cx 7 (zQ cx h0 (.inl (some (.int r.1))) r.2) h 21 [] [.ref t0] := by
  refine x_astore (lv' := [(6, .ref t0)]) hC dX0_learn_21 (by decide) [0] rfl ?_
  refine x_iconst (v := 2) hC dX0_learn_23 (by decide) ?_
  have e := some_e hF
  subst e
  exact x_iret hC dX0_learn_24
theorem w_X0_learn_17 {cx : zX} {h0 : AH} (hC : Cx cx RX0 cX0_learn 7 10 177 (some .int) h0) (hE : cx.c.exceptionTable.toList = tableOf [(0, 14, 17, 21), (0, 14, 21, 15)]) {h : AH} {r : (Int32 × AH)}   {t0 : Nat} (hF : B_X0_learn_17 h  t0 = some r) : X cx 7 (zQ cx h0 (.inl (some (.int r.1))) r.2) h 17 [] [.ref t0] := by
  refine x_astore (lv' := [(6, .ref t0)]) hC dX0_learn_17 (by decide) [0] rfl ?_
  refine x_iconst (v := 1) hC dX0_learn_19 (by decide) ?_
  have e := some_e hF
  subst e
  exact x_iret hC dX0_learn_20
theorem w_X0_learn {cx : zX} {h0 : AH} (hC : Cx cx RX0 cX0_learn 7 10 177 (some .int) h0) (hE : cx.c.exceptionTable.toList = tableOf [(0, 14, 17, 21), (0, 14, 21, 15)]) {h : AH} {a0 : Nat} {x1 : Int32} {x2 : Int32} {x3 : Int32} {x4 : Int32} {a5 : Nat} {r : (Int32 × AH)} (hF : F_X0_learn h a0 x1 x2 x3 x4 a5 = some r) : X cx 7 (zQ cx h0 (.inl (some (.int r.1))) r.2) h 0 [(0, .ref a0), (1, .int x1), (2, .int x2), (3, .int x3), (4, .int x4), (5, .ref a5)] [] := by
  refine x_aload hC dX0_learn_0 5 rfl ?_
  refine x_iconst (v := 0) hC dX0_learn_2 (by decide) ?_
  refine x_aload_n hC dX0_learn_3 0 rfl ?_
  refine x_iload_n hC dX0_learn_4 1 rfl ?_
  refine x_iload_n hC dX0_learn_5 2 rfl ?_
  refine x_iload_n hC dX0_learn_6 3 rfl ?_
  refine x_iload hC dX0_learn_7 4 rfl ?_
  obtain ⟨g10, hF⟩ := gd_e hF
  rcases ec_e hF with ⟨v11, h12, e15, hF⟩ | ⟨E13, q_14, h12, e15, hF⟩
  · refine xk_V (κ := 1) (As := [.int x1, .int x2, .int x3, .int x4]) (st := [.int 0, .ref a5]) hC (m_X1_learn hC.fl e15) g10 rfl q1630 q1631 q1632 q1633 q97 hy_X1_learn ⟨Nat.le_of_ble_eq_true rfl, Nat.le_of_ble_eq_true rfl⟩ (Nat.le_of_ble_eq_true rfl) rfl dX0_learn_9 ?_
    refine x_i2l hC dX0_learn_12 ?_
    obtain ⟨g16, hF⟩ := gd_e hF
    obtain ⟨h17, e18, hF⟩ := lh_e hF
    refine x_lastE hC e18 g16.1 g16.2 dX0_learn_13 ?_
    refine x_goto (tgt := 25) hC dX0_learn_14 (by decide) ?_
    refine x_iconst (v := 0) hC dX0_learn_25 (by decide) ?_
    have e := some_e hF
    subst e
    exact x_iret hC dX0_learn_26
  · refine xk_V (κ := 1) (As := [.int x1, .int x2, .int x3, .int x4]) (st := [.int 0, .ref a5]) hC (mx_X1_learn hC.fl e15) g10 rfl q1630 q1631 q1632 q1633 q97 hy_X1_learn ⟨Nat.le_of_ble_eq_true rfl, Nat.le_of_ble_eq_true rfl⟩ (Nat.le_of_ble_eq_true rfl) rfl dX0_learn_9 ?_
    by_cases u19 : E13 = 2
    · have hF := it_t u19 hF
      subst u19
      refine x_catch (E := zE 2) hC [⟨0, 14, 17, 21⟩] ⟨0, 14, 21, 15⟩ [] (hE.trans rfl) (List.forall_mem_cons.mpr ⟨Or.inr ⟨by decide, _, q725, nce_X0_2_java_util_NoSuchElementException hC⟩, fun _ h => absurd h List.not_mem_nil⟩) (by decide) (by decide) q486 q590 ?_
      refine X.sub (lv' := []) [] rfl ?_
      exact w_X0_learn_21 hC hE  hF
    have hF := it_f u19 hF
    by_cases u20 : E13 = 3
    · have hF := it_t u20 hF
      subst u20
      refine x_catch (E := zE 3) hC [] ⟨0, 14, 17, 21⟩ [⟨0, 14, 21, 15⟩] (hE.trans rfl) (fun _ h => absurd h List.not_mem_nil) (by decide) (by decide) q725 q739 ?_
      refine X.sub (lv' := []) [] rfl ?_
      exact w_X0_learn_17 hC hE  hF
    have hF := it_f u20 hF
    cases hF
theorem hy_X0_learn : yX0_learn.cls ≠ "java/lang/invoke/MethodHandle" ∧ yX0_learn.cls ≠ "java/lang/invoke/VarHandle" ∧ (parseMethodDescriptor yX0_learn.desc).map (fun d => d.parameters.length) = some 6 := by decide +kernel
theorem m_X0_learn {Γ : zG} {l : Launch} (hfl : l.flags = flags0) {h : AH} {a0 : Nat} {x1 : Int32} {x2 : Int32} {x3 : Int32} {x4 : Int32} {a5 : Nat} {r : (Int32 × AH)} (hF : F_X0_learn h a0 x1 x2 x3 x4 a5 = some r) : zM Γ l yX0_learn (wsW_ yX0_learn cX0_learn 7 (some .int) [(0, 14, 17, 21), (0, 14, 21, 15)]) 10 177 [.ref a0, .int x1, .int x2, .int x3, .int x4, .ref a5] h (.inl (some (.int r.1))) r.2 := z_ofH hfl (by decide) (Nat.le_of_ble_eq_true rfl) fun x hG hl hC hN hE => by subst hG; subst hl; exact w_X0_learn hC hE hF
-- X0_above
def B_X0_above_21 (h : AH)  (t0 : Nat) : Option (Int32 × AH) := some (2, h)
def B_X0_above_17 (h : AH)  (t0 : Nat) : Option (Int32 × AH) := some (1, h)
def F_X0_above (h : AH) (a0 : Nat) (x1 : Int32) (x2 : Int32) (x3 : Int32) (x4 : Int32) (a5 : Nat) : Option (Int32 × AH) := gd (hK h a0 = 1) (ec (F_X1_above h a0 x1 x2 x3 x4) (fun v11 h12 => gd (hK h12 a5 = 102 ∧ inb 0 (hL h12 a5)) (lh (wJ h12 a5 (ix 0) (Int32.toInt64 v11)) fun h17 => some (0, h17))) (fun E13 q_14 h12 => if E13 = 2 then B_X0_above_21 h12 q_14 else if E13 = 3 then B_X0_above_17 h12 q_14 else none))
theorem w_X0_above_21 {cx : zX} {h0 : AH} (hC : Cx cx RX0 cX0_above 7 10 180 (some .int) h0) (hE : cx.c.exceptionTable.toList = tableOf [(0, 14, 17, 21), (0, 14, 21, 15)]) {h : AH} {r : (Int32 × AH)}   {t0 : Nat} (hF : B_X0_above_21 h  t0 = some r) : X cx 7 (zQ cx h0 (.inl (some (.int r.1))) r.2) h 21 [] [.ref t0] := by
  refine x_astore (lv' := [(6, .ref t0)]) hC dX0_above_21 (by decide) [0] rfl ?_
  refine x_iconst (v := 2) hC dX0_above_23 (by decide) ?_
  have e := some_e hF
  subst e
  exact x_iret hC dX0_above_24
theorem w_X0_above_17 {cx : zX} {h0 : AH} (hC : Cx cx RX0 cX0_above 7 10 180 (some .int) h0) (hE : cx.c.exceptionTable.toList = tableOf [(0, 14, 17, 21), (0, 14, 21, 15)]) {h : AH} {r : (Int32 × AH)}   {t0 : Nat} (hF : B_X0_above_17 h  t0 = some r) : X cx 7 (zQ cx h0 (.inl (some (.int r.1))) r.2) h 17 [] [.ref t0] := by
  refine x_astore (lv' := [(6, .ref t0)]) hC dX0_above_17 (by decide) [0] rfl ?_
  refine x_iconst (v := 1) hC dX0_above_19 (by decide) ?_
  have e := some_e hF
  subst e
  exact x_iret hC dX0_above_20
theorem w_X0_above {cx : zX} {h0 : AH} (hC : Cx cx RX0 cX0_above 7 10 180 (some .int) h0) (hE : cx.c.exceptionTable.toList = tableOf [(0, 14, 17, 21), (0, 14, 21, 15)]) {h : AH} {a0 : Nat} {x1 : Int32} {x2 : Int32} {x3 : Int32} {x4 : Int32} {a5 : Nat} {r : (Int32 × AH)} (hF : F_X0_above h a0 x1 x2 x3 x4 a5 = some r) : X cx 7 (zQ cx h0 (.inl (some (.int r.1))) r.2) h 0 [(0, .ref a0), (1, .int x1), (2, .int x2), (3, .int x3), (4, .int x4), (5, .ref a5)] [] := by
  refine x_aload hC dX0_above_0 5 rfl ?_
  refine x_iconst (v := 0) hC dX0_above_2 (by decide) ?_
  refine x_aload_n hC dX0_above_3 0 rfl ?_
  refine x_iload_n hC dX0_above_4 1 rfl ?_
  refine x_iload_n hC dX0_above_5 2 rfl ?_
  refine x_iload_n hC dX0_above_6 3 rfl ?_
  refine x_iload hC dX0_above_7 4 rfl ?_
  obtain ⟨g10, hF⟩ := gd_e hF
  rcases ec_e hF with ⟨v11, h12, e15, hF⟩ | ⟨E13, q_14, h12, e15, hF⟩
  · refine xk_V (κ := 1) (As := [.int x1, .int x2, .int x3, .int x4]) (st := [.int 0, .ref a5]) hC (m_X1_above hC.fl e15) g10 rfl q1659 q1660 q1661 q1662 q97 hy_X1_above ⟨Nat.le_of_ble_eq_true rfl, Nat.le_of_ble_eq_true rfl⟩ (Nat.le_of_ble_eq_true rfl) rfl dX0_above_9 ?_
    refine x_i2l hC dX0_above_12 ?_
    obtain ⟨g16, hF⟩ := gd_e hF
    obtain ⟨h17, e18, hF⟩ := lh_e hF
    refine x_lastE hC e18 g16.1 g16.2 dX0_above_13 ?_
    refine x_goto (tgt := 25) hC dX0_above_14 (by decide) ?_
    refine x_iconst (v := 0) hC dX0_above_25 (by decide) ?_
    have e := some_e hF
    subst e
    exact x_iret hC dX0_above_26
  · refine xk_V (κ := 1) (As := [.int x1, .int x2, .int x3, .int x4]) (st := [.int 0, .ref a5]) hC (mx_X1_above hC.fl e15) g10 rfl q1659 q1660 q1661 q1662 q97 hy_X1_above ⟨Nat.le_of_ble_eq_true rfl, Nat.le_of_ble_eq_true rfl⟩ (Nat.le_of_ble_eq_true rfl) rfl dX0_above_9 ?_
    by_cases u19 : E13 = 2
    · have hF := it_t u19 hF
      subst u19
      refine x_catch (E := zE 2) hC [⟨0, 14, 17, 21⟩] ⟨0, 14, 21, 15⟩ [] (hE.trans rfl) (List.forall_mem_cons.mpr ⟨Or.inr ⟨by decide, _, q725, nce_X0_2_java_util_NoSuchElementException hC⟩, fun _ h => absurd h List.not_mem_nil⟩) (by decide) (by decide) q486 q590 ?_
      refine X.sub (lv' := []) [] rfl ?_
      exact w_X0_above_21 hC hE  hF
    have hF := it_f u19 hF
    by_cases u20 : E13 = 3
    · have hF := it_t u20 hF
      subst u20
      refine x_catch (E := zE 3) hC [] ⟨0, 14, 17, 21⟩ [⟨0, 14, 21, 15⟩] (hE.trans rfl) (fun _ h => absurd h List.not_mem_nil) (by decide) (by decide) q725 q739 ?_
      refine X.sub (lv' := []) [] rfl ?_
      exact w_X0_above_17 hC hE  hF
    have hF := it_f u20 hF
    cases hF
theorem hy_X0_above : yX0_above.cls ≠ "java/lang/invoke/MethodHandle" ∧ yX0_above.cls ≠ "java/lang/invoke/VarHandle" ∧ (parseMethodDescriptor yX0_above.desc).map (fun d => d.parameters.length) = some 6 := by decide +kernel
theorem m_X0_above {Γ : zG} {l : Launch} (hfl : l.flags = flags0) {h : AH} {a0 : Nat} {x1 : Int32} {x2 : Int32} {x3 : Int32} {x4 : Int32} {a5 : Nat} {r : (Int32 × AH)} (hF : F_X0_above h a0 x1 x2 x3 x4 a5 = some r) : zM Γ l yX0_above (wsW_ yX0_above cX0_above 7 (some .int) [(0, 14, 17, 21), (0, 14, 21, 15)]) 10 180 [.ref a0, .int x1, .int x2, .int x3, .int x4, .ref a5] h (.inl (some (.int r.1))) r.2 := z_ofH hfl (by decide) (Nat.le_of_ble_eq_true rfl) fun x hG hl hC hN hE => by subst hG; subst hl; exact w_X0_above hC hE hF
-- X0_punish
def B_X0_punish_23 (h : AH)  (t0 : Nat) : Option (Int32 × AH) := some (2, h)
def B_X0_punish_19 (h : AH)  (t0 : Nat) : Option (Int32 × AH) := some (1, h)
def B_X0_punish_27 (h : AH)  (t0 : Nat) : Option (Int32 × AH) := some (3, h)
def F_X0_punish (h : AH) (a0 : Nat) (x1 : Int32) (x2 : Int32) (x3 : Int32) (x4 : Int32) (x5 : Int32) (a6 : Nat) : Option (Int32 × AH) := gd (hK h a0 = 1) (ec (F_X1_punish h a0 x1 x2 x3 x4 x5) (fun v11 h12 => gd (hK h12 a6 = 102 ∧ inb 0 (hL h12 a6)) (lh (wJ h12 a6 (ix 0) (Int32.toInt64 v11)) fun h17 => some (0, h17))) (fun E13 q_14 h12 => if E13 = 2 then B_X0_punish_23 h12 q_14 else if E13 = 3 then B_X0_punish_19 h12 q_14 else if E13 = 4 then B_X0_punish_27 h12 q_14 else none))
theorem w_X0_punish_23 {cx : zX} {h0 : AH} (hC : Cx cx RX0 cX0_punish 8 10 178 (some .int) h0) (hE : cx.c.exceptionTable.toList = tableOf [(0, 16, 19, 21), (0, 16, 23, 15), (0, 16, 27, 71)]) {h : AH} {r : (Int32 × AH)}   {t0 : Nat} (hF : B_X0_punish_23 h  t0 = some r) : X cx 8 (zQ cx h0 (.inl (some (.int r.1))) r.2) h 23 [] [.ref t0] := by
  refine x_astore (lv' := [(7, .ref t0)]) hC dX0_punish_23 (by decide) [0] rfl ?_
  refine x_iconst (v := 2) hC dX0_punish_25 (by decide) ?_
  have e := some_e hF
  subst e
  exact x_iret hC dX0_punish_26
theorem w_X0_punish_19 {cx : zX} {h0 : AH} (hC : Cx cx RX0 cX0_punish 8 10 178 (some .int) h0) (hE : cx.c.exceptionTable.toList = tableOf [(0, 16, 19, 21), (0, 16, 23, 15), (0, 16, 27, 71)]) {h : AH} {r : (Int32 × AH)}   {t0 : Nat} (hF : B_X0_punish_19 h  t0 = some r) : X cx 8 (zQ cx h0 (.inl (some (.int r.1))) r.2) h 19 [] [.ref t0] := by
  refine x_astore (lv' := [(7, .ref t0)]) hC dX0_punish_19 (by decide) [0] rfl ?_
  refine x_iconst (v := 1) hC dX0_punish_21 (by decide) ?_
  have e := some_e hF
  subst e
  exact x_iret hC dX0_punish_22
theorem w_X0_punish_27 {cx : zX} {h0 : AH} (hC : Cx cx RX0 cX0_punish 8 10 178 (some .int) h0) (hE : cx.c.exceptionTable.toList = tableOf [(0, 16, 19, 21), (0, 16, 23, 15), (0, 16, 27, 71)]) {h : AH} {r : (Int32 × AH)}   {t0 : Nat} (hF : B_X0_punish_27 h  t0 = some r) : X cx 8 (zQ cx h0 (.inl (some (.int r.1))) r.2) h 27 [] [.ref t0] := by
  refine x_astore (lv' := [(7, .ref t0)]) hC dX0_punish_27 (by decide) [0] rfl ?_
  refine x_iconst (v := 3) hC dX0_punish_29 (by decide) ?_
  have e := some_e hF
  subst e
  exact x_iret hC dX0_punish_30
theorem w_X0_punish {cx : zX} {h0 : AH} (hC : Cx cx RX0 cX0_punish 8 10 178 (some .int) h0) (hE : cx.c.exceptionTable.toList = tableOf [(0, 16, 19, 21), (0, 16, 23, 15), (0, 16, 27, 71)]) {h : AH} {a0 : Nat} {x1 : Int32} {x2 : Int32} {x3 : Int32} {x4 : Int32} {x5 : Int32} {a6 : Nat} {r : (Int32 × AH)} (hF : F_X0_punish h a0 x1 x2 x3 x4 x5 a6 = some r) : X cx 8 (zQ cx h0 (.inl (some (.int r.1))) r.2) h 0 [(0, .ref a0), (1, .int x1), (2, .int x2), (3, .int x3), (4, .int x4), (5, .int x5), (6, .ref a6)] [] := by
  refine x_aload hC dX0_punish_0 6 rfl ?_
  refine x_iconst (v := 0) hC dX0_punish_2 (by decide) ?_
  refine x_aload_n hC dX0_punish_3 0 rfl ?_
  refine x_iload_n hC dX0_punish_4 1 rfl ?_
  refine x_iload_n hC dX0_punish_5 2 rfl ?_
  refine x_iload_n hC dX0_punish_6 3 rfl ?_
  refine x_iload hC dX0_punish_7 4 rfl ?_
  refine x_iload hC dX0_punish_9 5 rfl ?_
  obtain ⟨g10, hF⟩ := gd_e hF
  rcases ec_e hF with ⟨v11, h12, e15, hF⟩ | ⟨E13, q_14, h12, e15, hF⟩
  · refine xk_V (κ := 1) (As := [.int x1, .int x2, .int x3, .int x4, .int x5]) (st := [.int 0, .ref a6]) hC (m_X1_punish hC.fl e15) g10 rfl q1666 q1667 q1668 q1669 q97 hy_X1_punish ⟨Nat.le_of_ble_eq_true rfl, Nat.le_of_ble_eq_true rfl⟩ (Nat.le_of_ble_eq_true rfl) rfl dX0_punish_11 ?_
    refine x_i2l hC dX0_punish_14 ?_
    obtain ⟨g16, hF⟩ := gd_e hF
    obtain ⟨h17, e18, hF⟩ := lh_e hF
    refine x_lastE hC e18 g16.1 g16.2 dX0_punish_15 ?_
    refine x_goto (tgt := 31) hC dX0_punish_16 (by decide) ?_
    refine x_iconst (v := 0) hC dX0_punish_31 (by decide) ?_
    have e := some_e hF
    subst e
    exact x_iret hC dX0_punish_32
  · refine xk_V (κ := 1) (As := [.int x1, .int x2, .int x3, .int x4, .int x5]) (st := [.int 0, .ref a6]) hC (mx_X1_punish hC.fl e15) g10 rfl q1666 q1667 q1668 q1669 q97 hy_X1_punish ⟨Nat.le_of_ble_eq_true rfl, Nat.le_of_ble_eq_true rfl⟩ (Nat.le_of_ble_eq_true rfl) rfl dX0_punish_11 ?_
    by_cases u19 : E13 = 2
    · have hF := it_t u19 hF
      subst u19
      refine x_catch (E := zE 2) hC [⟨0, 16, 19, 21⟩] ⟨0, 16, 23, 15⟩ [⟨0, 16, 27, 71⟩] (hE.trans rfl) (List.forall_mem_cons.mpr ⟨Or.inr ⟨by decide, _, q725, nce_X0_2_java_util_NoSuchElementException hC⟩, fun _ h => absurd h List.not_mem_nil⟩) (by decide) (by decide) q486 q590 ?_
      refine X.sub (lv' := []) [] rfl ?_
      exact w_X0_punish_23 hC hE  hF
    have hF := it_f u19 hF
    by_cases u20 : E13 = 3
    · have hF := it_t u20 hF
      subst u20
      refine x_catch (E := zE 3) hC [] ⟨0, 16, 19, 21⟩ [⟨0, 16, 23, 15⟩, ⟨0, 16, 27, 71⟩] (hE.trans rfl) (fun _ h => absurd h List.not_mem_nil) (by decide) (by decide) q725 q739 ?_
      refine X.sub (lv' := []) [] rfl ?_
      exact w_X0_punish_19 hC hE  hF
    have hF := it_f u20 hF
    by_cases u21 : E13 = 4
    · have hF := it_t u21 hF
      subst u21
      refine x_catch (E := zE 4) hC [⟨0, 16, 19, 21⟩, ⟨0, 16, 23, 15⟩] ⟨0, 16, 27, 71⟩ [] (hE.trans rfl) (List.forall_mem_cons.mpr ⟨Or.inr ⟨by decide, _, q725, nce_X0_4_java_util_NoSuchElementException hC⟩, List.forall_mem_cons.mpr ⟨Or.inr ⟨by decide, _, q486, nce_X0_4_java_lang_IllegalArgumentException hC⟩, fun _ h => absurd h List.not_mem_nil⟩⟩) (by decide) (by decide) q1501 q1550 ?_
      refine X.sub (lv' := []) [] rfl ?_
      exact w_X0_punish_27 hC hE  hF
    have hF := it_f u21 hF
    cases hF
theorem hy_X0_punish : yX0_punish.cls ≠ "java/lang/invoke/MethodHandle" ∧ yX0_punish.cls ≠ "java/lang/invoke/VarHandle" ∧ (parseMethodDescriptor yX0_punish.desc).map (fun d => d.parameters.length) = some 7 := by decide +kernel
theorem m_X0_punish {Γ : zG} {l : Launch} (hfl : l.flags = flags0) {h : AH} {a0 : Nat} {x1 : Int32} {x2 : Int32} {x3 : Int32} {x4 : Int32} {x5 : Int32} {a6 : Nat} {r : (Int32 × AH)} (hF : F_X0_punish h a0 x1 x2 x3 x4 x5 a6 = some r) : zM Γ l yX0_punish (wsW_ yX0_punish cX0_punish 8 (some .int) [(0, 16, 19, 21), (0, 16, 23, 15), (0, 16, 27, 71)]) 10 178 [.ref a0, .int x1, .int x2, .int x3, .int x4, .int x5, .ref a6] h (.inl (some (.int r.1))) r.2 := z_ofH hfl (by decide) (Nat.le_of_ble_eq_true rfl) fun x hG hl hC hN hE => by subst hG; subst hl; exact w_X0_punish hC hE hF
-- X0_would
def B_X0_would_12 (h : AH)  (t0 : Nat) : Option (Int32 × AH) := some (1, h)
def F_X0_would (h : AH) (a0 : Nat) (x1 : Int32) (a2 : Nat) : Option (Int32 × AH) := gd (hK h a0 = 1) (ec (F_X1_would h a0 x1) (fun v11 h12 => gd (hK h12 a2 = 102 ∧ inb 0 (hL h12 a2)) (lh (wJ h12 a2 (ix 0) (Int32.toInt64 v11)) fun h17 => some (0, h17))) (fun E13 q_14 h12 => if E13 = 3 then B_X0_would_12 h12 q_14 else none))
theorem w_X0_would_12 {cx : zX} {h0 : AH} (hC : Cx cx RX0 cX0_would 4 456 46069 (some .int) h0) (hE : cx.c.exceptionTable.toList = tableOf [(0, 9, 12, 21)]) {h : AH} {r : (Int32 × AH)}   {t0 : Nat} (hF : B_X0_would_12 h  t0 = some r) : X cx 4 (zQ cx h0 (.inl (some (.int r.1))) r.2) h 12 [] [.ref t0] := by
  refine x_astore_n (lv' := [(3, .ref t0)]) hC dX0_would_12 (by decide) [0] rfl ?_
  refine x_iconst (v := 1) hC dX0_would_13 (by decide) ?_
  have e := some_e hF
  subst e
  exact x_iret hC dX0_would_14
theorem w_X0_would {cx : zX} {h0 : AH} (hC : Cx cx RX0 cX0_would 4 456 46069 (some .int) h0) (hE : cx.c.exceptionTable.toList = tableOf [(0, 9, 12, 21)]) {h : AH} {a0 : Nat} {x1 : Int32} {a2 : Nat} {r : (Int32 × AH)} (hF : F_X0_would h a0 x1 a2 = some r) : X cx 4 (zQ cx h0 (.inl (some (.int r.1))) r.2) h 0 [(0, .ref a0), (1, .int x1), (2, .ref a2)] [] := by
  refine x_aload_n hC dX0_would_0 2 rfl ?_
  refine x_iconst (v := 0) hC dX0_would_1 (by decide) ?_
  refine x_aload_n hC dX0_would_2 0 rfl ?_
  refine x_iload_n hC dX0_would_3 1 rfl ?_
  obtain ⟨g10, hF⟩ := gd_e hF
  rcases ec_e hF with ⟨v11, h12, e15, hF⟩ | ⟨E13, q_14, h12, e15, hF⟩
  · refine xk_V (κ := 1) (As := [.int x1]) (st := [.int 0, .ref a2]) hC (m_X1_would hC.fl e15) g10 rfl q1437 q1438 q1439 q1440 q97 hy_X1_would ⟨Nat.le_of_ble_eq_true rfl, Nat.le_of_ble_eq_true rfl⟩ (Nat.le_of_ble_eq_true rfl) rfl dX0_would_4 ?_
    refine x_i2l hC dX0_would_7 ?_
    obtain ⟨g16, hF⟩ := gd_e hF
    obtain ⟨h17, e18, hF⟩ := lh_e hF
    refine x_lastE hC e18 g16.1 g16.2 dX0_would_8 ?_
    refine x_goto (tgt := 15) hC dX0_would_9 (by decide) ?_
    refine x_iconst (v := 0) hC dX0_would_15 (by decide) ?_
    have e := some_e hF
    subst e
    exact x_iret hC dX0_would_16
  · refine xk_V (κ := 1) (As := [.int x1]) (st := [.int 0, .ref a2]) hC (mx_X1_would hC.fl e15) g10 rfl q1437 q1438 q1439 q1440 q97 hy_X1_would ⟨Nat.le_of_ble_eq_true rfl, Nat.le_of_ble_eq_true rfl⟩ (Nat.le_of_ble_eq_true rfl) rfl dX0_would_4 ?_
    by_cases u19 : E13 = 3
    · have hF := it_t u19 hF
      subst u19
      refine x_catch (E := zE 3) hC [] ⟨0, 9, 12, 21⟩ [] (hE.trans rfl) (fun _ h => absurd h List.not_mem_nil) (by decide) (by decide) q725 q739 ?_
      refine X.sub (lv' := []) [] rfl ?_
      exact w_X0_would_12 hC hE  hF
    have hF := it_f u19 hF
    cases hF
theorem hy_X0_would : yX0_would.cls ≠ "java/lang/invoke/MethodHandle" ∧ yX0_would.cls ≠ "java/lang/invoke/VarHandle" ∧ (parseMethodDescriptor yX0_would.desc).map (fun d => d.parameters.length) = some 3 := by decide +kernel
theorem m_X0_would {Γ : zG} {l : Launch} (hfl : l.flags = flags0) {h : AH} {a0 : Nat} {x1 : Int32} {a2 : Nat} {r : (Int32 × AH)} (hF : F_X0_would h a0 x1 a2 = some r) : zM Γ l yX0_would (wsW_ yX0_would cX0_would 4 (some .int) [(0, 9, 12, 21)]) 456 46069 [.ref a0, .int x1, .ref a2] h (.inl (some (.int r.1))) r.2 := z_ofH hfl (by decide) (Nat.le_of_ble_eq_true rfl) fun x hG hl hC hN hE => by subst hG; subst hl; exact w_X0_would hC hE hF
-- X0_fit
def B_X0_fit_12 (h : AH)  (t0 : Nat) : Option (Int32 × AH) := some (1, h)
def F_X0_fit (h : AH) (a0 : Nat) (x1 : Int32) (a2 : Nat) : Option (Int32 × AH) := gd (hK h a0 = 1) (ec (F_X1_fit h a0 x1) (fun v11 h12 => gd (hK h12 a2 = 102 ∧ inb 0 (hL h12 a2)) (lh (wJ h12 a2 (ix 0) (Int32.toInt64 v11)) fun h17 => some (0, h17))) (fun E13 q_14 h12 => if E13 = 3 then B_X0_fit_12 h12 q_14 else none))
theorem w_X0_fit_12 {cx : zX} {h0 : AH} (hC : Cx cx RX0 cX0_fit 4 456 46070 (some .int) h0) (hE : cx.c.exceptionTable.toList = tableOf [(0, 9, 12, 21)]) {h : AH} {r : (Int32 × AH)}   {t0 : Nat} (hF : B_X0_fit_12 h  t0 = some r) : X cx 4 (zQ cx h0 (.inl (some (.int r.1))) r.2) h 12 [] [.ref t0] := by
  refine x_astore_n (lv' := [(3, .ref t0)]) hC dX0_fit_12 (by decide) [0] rfl ?_
  refine x_iconst (v := 1) hC dX0_fit_13 (by decide) ?_
  have e := some_e hF
  subst e
  exact x_iret hC dX0_fit_14
theorem w_X0_fit {cx : zX} {h0 : AH} (hC : Cx cx RX0 cX0_fit 4 456 46070 (some .int) h0) (hE : cx.c.exceptionTable.toList = tableOf [(0, 9, 12, 21)]) {h : AH} {a0 : Nat} {x1 : Int32} {a2 : Nat} {r : (Int32 × AH)} (hF : F_X0_fit h a0 x1 a2 = some r) : X cx 4 (zQ cx h0 (.inl (some (.int r.1))) r.2) h 0 [(0, .ref a0), (1, .int x1), (2, .ref a2)] [] := by
  refine x_aload_n hC dX0_fit_0 2 rfl ?_
  refine x_iconst (v := 0) hC dX0_fit_1 (by decide) ?_
  refine x_aload_n hC dX0_fit_2 0 rfl ?_
  refine x_iload_n hC dX0_fit_3 1 rfl ?_
  obtain ⟨g10, hF⟩ := gd_e hF
  rcases ec_e hF with ⟨v11, h12, e15, hF⟩ | ⟨E13, q_14, h12, e15, hF⟩
  · refine xk_V (κ := 1) (As := [.int x1]) (st := [.int 0, .ref a2]) hC (m_X1_fit hC.fl e15) g10 rfl q1752 q1753 q1754 q1755 q97 hy_X1_fit ⟨Nat.le_of_ble_eq_true rfl, Nat.le_of_ble_eq_true rfl⟩ (Nat.le_of_ble_eq_true rfl) rfl dX0_fit_4 ?_
    refine x_i2l hC dX0_fit_7 ?_
    obtain ⟨g16, hF⟩ := gd_e hF
    obtain ⟨h17, e18, hF⟩ := lh_e hF
    refine x_lastE hC e18 g16.1 g16.2 dX0_fit_8 ?_
    refine x_goto (tgt := 15) hC dX0_fit_9 (by decide) ?_
    refine x_iconst (v := 0) hC dX0_fit_15 (by decide) ?_
    have e := some_e hF
    subst e
    exact x_iret hC dX0_fit_16
  · refine xk_V (κ := 1) (As := [.int x1]) (st := [.int 0, .ref a2]) hC (mx_X1_fit hC.fl e15) g10 rfl q1752 q1753 q1754 q1755 q97 hy_X1_fit ⟨Nat.le_of_ble_eq_true rfl, Nat.le_of_ble_eq_true rfl⟩ (Nat.le_of_ble_eq_true rfl) rfl dX0_fit_4 ?_
    by_cases u19 : E13 = 3
    · have hF := it_t u19 hF
      subst u19
      refine x_catch (E := zE 3) hC [] ⟨0, 9, 12, 21⟩ [] (hE.trans rfl) (fun _ h => absurd h List.not_mem_nil) (by decide) (by decide) q725 q739 ?_
      refine X.sub (lv' := []) [] rfl ?_
      exact w_X0_fit_12 hC hE  hF
    have hF := it_f u19 hF
    cases hF
theorem hy_X0_fit : yX0_fit.cls ≠ "java/lang/invoke/MethodHandle" ∧ yX0_fit.cls ≠ "java/lang/invoke/VarHandle" ∧ (parseMethodDescriptor yX0_fit.desc).map (fun d => d.parameters.length) = some 3 := by decide +kernel
theorem m_X0_fit {Γ : zG} {l : Launch} (hfl : l.flags = flags0) {h : AH} {a0 : Nat} {x1 : Int32} {a2 : Nat} {r : (Int32 × AH)} (hF : F_X0_fit h a0 x1 a2 = some r) : zM Γ l yX0_fit (wsW_ yX0_fit cX0_fit 4 (some .int) [(0, 9, 12, 21)]) 456 46070 [.ref a0, .int x1, .ref a2] h (.inl (some (.int r.1))) r.2 := z_ofH hfl (by decide) (Nat.le_of_ble_eq_true rfl) fun x hG hl hC hN hE => by subst hG; subst hl; exact w_X0_fit hC hE hF
-- X0_station
def B_X0_station_15 (h : AH)  (t0 : Nat) : Option (Int32 × AH) := some (1, h)
def B_X0_station_19 (h : AH)  (t0 : Nat) : Option (Int32 × AH) := some (2, h)
def F_X0_station (h : AH) (a0 : Nat) (x1 : Int32) (x2 : Int32) (x3 : Int32) (a4 : Nat) : Option (Int32 × AH) := gd (hK h a0 = 1) (ec (F_X1_station h a0 x1 x2 x3) (fun v11 h12 => gd (hK h12 a4 = 102 ∧ inb 0 (hL h12 a4)) (lh (wJ h12 a4 (ix 0) (Int32.toInt64 v11)) fun h17 => some (0, h17))) (fun E13 q_14 h12 => if E13 = 1 then B_X0_station_15 h12 q_14 else if E13 = 2 then B_X0_station_19 h12 q_14 else none))
theorem w_X0_station_15 {cx : zX} {h0 : AH} (hC : Cx cx RX0 cX0_station 6 8 214 (some .int) h0) (hE : cx.c.exceptionTable.toList = tableOf [(0, 12, 15, 13), (0, 12, 19, 15)]) {h : AH} {r : (Int32 × AH)}   {t0 : Nat} (hF : B_X0_station_15 h  t0 = some r) : X cx 6 (zQ cx h0 (.inl (some (.int r.1))) r.2) h 15 [] [.ref t0] := by
  refine x_astore (lv' := [(5, .ref t0)]) hC dX0_station_15 (by decide) [0] rfl ?_
  refine x_iconst (v := 1) hC dX0_station_17 (by decide) ?_
  have e := some_e hF
  subst e
  exact x_iret hC dX0_station_18
theorem w_X0_station_19 {cx : zX} {h0 : AH} (hC : Cx cx RX0 cX0_station 6 8 214 (some .int) h0) (hE : cx.c.exceptionTable.toList = tableOf [(0, 12, 15, 13), (0, 12, 19, 15)]) {h : AH} {r : (Int32 × AH)}   {t0 : Nat} (hF : B_X0_station_19 h  t0 = some r) : X cx 6 (zQ cx h0 (.inl (some (.int r.1))) r.2) h 19 [] [.ref t0] := by
  refine x_astore (lv' := [(5, .ref t0)]) hC dX0_station_19 (by decide) [0] rfl ?_
  refine x_iconst (v := 2) hC dX0_station_21 (by decide) ?_
  have e := some_e hF
  subst e
  exact x_iret hC dX0_station_22
theorem w_X0_station {cx : zX} {h0 : AH} (hC : Cx cx RX0 cX0_station 6 8 214 (some .int) h0) (hE : cx.c.exceptionTable.toList = tableOf [(0, 12, 15, 13), (0, 12, 19, 15)]) {h : AH} {a0 : Nat} {x1 : Int32} {x2 : Int32} {x3 : Int32} {a4 : Nat} {r : (Int32 × AH)} (hF : F_X0_station h a0 x1 x2 x3 a4 = some r) : X cx 6 (zQ cx h0 (.inl (some (.int r.1))) r.2) h 0 [(0, .ref a0), (1, .int x1), (2, .int x2), (3, .int x3), (4, .ref a4)] [] := by
  refine x_aload hC dX0_station_0 4 rfl ?_
  refine x_iconst (v := 0) hC dX0_station_2 (by decide) ?_
  refine x_aload_n hC dX0_station_3 0 rfl ?_
  refine x_iload_n hC dX0_station_4 1 rfl ?_
  refine x_iload_n hC dX0_station_5 2 rfl ?_
  refine x_iload_n hC dX0_station_6 3 rfl ?_
  obtain ⟨g10, hF⟩ := gd_e hF
  rcases ec_e hF with ⟨v11, h12, e15, hF⟩ | ⟨E13, q_14, h12, e15, hF⟩
  · refine xk_V (κ := 1) (As := [.int x1, .int x2, .int x3]) (st := [.int 0, .ref a4]) hC (m_X1_station hC.fl e15) g10 rfl q487 q488 q489 q490 q97 hy_X1_station ⟨Nat.le_of_ble_eq_true rfl, Nat.le_of_ble_eq_true rfl⟩ (Nat.le_of_ble_eq_true rfl) rfl dX0_station_7 ?_
    refine x_i2l hC dX0_station_10 ?_
    obtain ⟨g16, hF⟩ := gd_e hF
    obtain ⟨h17, e18, hF⟩ := lh_e hF
    refine x_lastE hC e18 g16.1 g16.2 dX0_station_11 ?_
    refine x_goto (tgt := 23) hC dX0_station_12 (by decide) ?_
    refine x_iconst (v := 0) hC dX0_station_23 (by decide) ?_
    have e := some_e hF
    subst e
    exact x_iret hC dX0_station_24
  · refine xk_V (κ := 1) (As := [.int x1, .int x2, .int x3]) (st := [.int 0, .ref a4]) hC (mx_X1_station hC.fl e15) g10 rfl q487 q488 q489 q490 q97 hy_X1_station ⟨Nat.le_of_ble_eq_true rfl, Nat.le_of_ble_eq_true rfl⟩ (Nat.le_of_ble_eq_true rfl) rfl dX0_station_7 ?_
    by_cases u19 : E13 = 1
    · have hF := it_t u19 hF
      subst u19
      refine x_catch (E := zE 1) hC [] ⟨0, 12, 15, 13⟩ [⟨0, 12, 19, 15⟩] (hE.trans rfl) (fun _ h => absurd h List.not_mem_nil) (by decide) (by decide) q485 q500 ?_
      refine X.sub (lv' := []) [] rfl ?_
      exact w_X0_station_15 hC hE  hF
    have hF := it_f u19 hF
    by_cases u20 : E13 = 2
    · have hF := it_t u20 hF
      subst u20
      refine x_catch (E := zE 2) hC [⟨0, 12, 15, 13⟩] ⟨0, 12, 19, 15⟩ [] (hE.trans rfl) (List.forall_mem_cons.mpr ⟨Or.inr ⟨by decide, _, q485, nce_X0_2_java_lang_IllegalStateException hC⟩, fun _ h => absurd h List.not_mem_nil⟩) (by decide) (by decide) q486 q590 ?_
      refine X.sub (lv' := []) [] rfl ?_
      exact w_X0_station_19 hC hE  hF
    have hF := it_f u20 hF
    cases hF
theorem hy_X0_station : yX0_station.cls ≠ "java/lang/invoke/MethodHandle" ∧ yX0_station.cls ≠ "java/lang/invoke/VarHandle" ∧ (parseMethodDescriptor yX0_station.desc).map (fun d => d.parameters.length) = some 5 := by decide +kernel
theorem m_X0_station {Γ : zG} {l : Launch} (hfl : l.flags = flags0) {h : AH} {a0 : Nat} {x1 : Int32} {x2 : Int32} {x3 : Int32} {a4 : Nat} {r : (Int32 × AH)} (hF : F_X0_station h a0 x1 x2 x3 a4 = some r) : zM Γ l yX0_station (wsW_ yX0_station cX0_station 6 (some .int) [(0, 12, 15, 13), (0, 12, 19, 15)]) 8 214 [.ref a0, .int x1, .int x2, .int x3, .ref a4] h (.inl (some (.int r.1))) r.2 := z_ofH hfl (by decide) (Nat.le_of_ble_eq_true rfl) fun x hG hl hC hN hE => by subst hG; subst hl; exact w_X0_station hC hE hF
-- X0_driver
def B_X0_driver_21 (h : AH)  (t0 : Nat) : Option (Int32 × AH) := some (2, h)
def B_X0_driver_17 (h : AH)  (t0 : Nat) : Option (Int32 × AH) := some (1, h)
def F_X0_driver (h : AH) (a0 : Nat) (x1 : Int32) (x2 : Int32) (x3 : Int32) (x4 : Int32) (a5 : Nat) : Option (Int32 × AH) := gd (hK h a0 = 1) (ec (F_X1_driver h a0 x1 x2 x3 x4) (fun v11 h12 => gd (hK h12 a5 = 102 ∧ inb 0 (hL h12 a5)) (lh (wJ h12 a5 (ix 0) (Int32.toInt64 v11)) fun h17 => some (0, h17))) (fun E13 q_14 h12 => if E13 = 2 then B_X0_driver_21 h12 q_14 else if E13 = 3 then B_X0_driver_17 h12 q_14 else none))
theorem w_X0_driver_21 {cx : zX} {h0 : AH} (hC : Cx cx RX0 cX0_driver 7 9 215 (some .int) h0) (hE : cx.c.exceptionTable.toList = tableOf [(0, 14, 17, 21), (0, 14, 21, 15)]) {h : AH} {r : (Int32 × AH)}   {t0 : Nat} (hF : B_X0_driver_21 h  t0 = some r) : X cx 7 (zQ cx h0 (.inl (some (.int r.1))) r.2) h 21 [] [.ref t0] := by
  refine x_astore (lv' := [(6, .ref t0)]) hC dX0_driver_21 (by decide) [0] rfl ?_
  refine x_iconst (v := 2) hC dX0_driver_23 (by decide) ?_
  have e := some_e hF
  subst e
  exact x_iret hC dX0_driver_24
theorem w_X0_driver_17 {cx : zX} {h0 : AH} (hC : Cx cx RX0 cX0_driver 7 9 215 (some .int) h0) (hE : cx.c.exceptionTable.toList = tableOf [(0, 14, 17, 21), (0, 14, 21, 15)]) {h : AH} {r : (Int32 × AH)}   {t0 : Nat} (hF : B_X0_driver_17 h  t0 = some r) : X cx 7 (zQ cx h0 (.inl (some (.int r.1))) r.2) h 17 [] [.ref t0] := by
  refine x_astore (lv' := [(6, .ref t0)]) hC dX0_driver_17 (by decide) [0] rfl ?_
  refine x_iconst (v := 1) hC dX0_driver_19 (by decide) ?_
  have e := some_e hF
  subst e
  exact x_iret hC dX0_driver_20
theorem w_X0_driver {cx : zX} {h0 : AH} (hC : Cx cx RX0 cX0_driver 7 9 215 (some .int) h0) (hE : cx.c.exceptionTable.toList = tableOf [(0, 14, 17, 21), (0, 14, 21, 15)]) {h : AH} {a0 : Nat} {x1 : Int32} {x2 : Int32} {x3 : Int32} {x4 : Int32} {a5 : Nat} {r : (Int32 × AH)} (hF : F_X0_driver h a0 x1 x2 x3 x4 a5 = some r) : X cx 7 (zQ cx h0 (.inl (some (.int r.1))) r.2) h 0 [(0, .ref a0), (1, .int x1), (2, .int x2), (3, .int x3), (4, .int x4), (5, .ref a5)] [] := by
  refine x_aload hC dX0_driver_0 5 rfl ?_
  refine x_iconst (v := 0) hC dX0_driver_2 (by decide) ?_
  refine x_aload_n hC dX0_driver_3 0 rfl ?_
  refine x_iload_n hC dX0_driver_4 1 rfl ?_
  refine x_iload_n hC dX0_driver_5 2 rfl ?_
  refine x_iload_n hC dX0_driver_6 3 rfl ?_
  refine x_iload hC dX0_driver_7 4 rfl ?_
  obtain ⟨g10, hF⟩ := gd_e hF
  rcases ec_e hF with ⟨v11, h12, e15, hF⟩ | ⟨E13, q_14, h12, e15, hF⟩
  · refine xk_V (κ := 1) (As := [.int x1, .int x2, .int x3, .int x4]) (st := [.int 0, .ref a5]) hC (m_X1_driver hC.fl e15) g10 rfl q726 q727 q728 q729 q97 hy_X1_driver ⟨Nat.le_of_ble_eq_true rfl, Nat.le_of_ble_eq_true rfl⟩ (Nat.le_of_ble_eq_true rfl) rfl dX0_driver_9 ?_
    refine x_i2l hC dX0_driver_12 ?_
    obtain ⟨g16, hF⟩ := gd_e hF
    obtain ⟨h17, e18, hF⟩ := lh_e hF
    refine x_lastE hC e18 g16.1 g16.2 dX0_driver_13 ?_
    refine x_goto (tgt := 25) hC dX0_driver_14 (by decide) ?_
    refine x_iconst (v := 0) hC dX0_driver_25 (by decide) ?_
    have e := some_e hF
    subst e
    exact x_iret hC dX0_driver_26
  · refine xk_V (κ := 1) (As := [.int x1, .int x2, .int x3, .int x4]) (st := [.int 0, .ref a5]) hC (mx_X1_driver hC.fl e15) g10 rfl q726 q727 q728 q729 q97 hy_X1_driver ⟨Nat.le_of_ble_eq_true rfl, Nat.le_of_ble_eq_true rfl⟩ (Nat.le_of_ble_eq_true rfl) rfl dX0_driver_9 ?_
    by_cases u19 : E13 = 2
    · have hF := it_t u19 hF
      subst u19
      refine x_catch (E := zE 2) hC [⟨0, 14, 17, 21⟩] ⟨0, 14, 21, 15⟩ [] (hE.trans rfl) (List.forall_mem_cons.mpr ⟨Or.inr ⟨by decide, _, q725, nce_X0_2_java_util_NoSuchElementException hC⟩, fun _ h => absurd h List.not_mem_nil⟩) (by decide) (by decide) q486 q590 ?_
      refine X.sub (lv' := []) [] rfl ?_
      exact w_X0_driver_21 hC hE  hF
    have hF := it_f u19 hF
    by_cases u20 : E13 = 3
    · have hF := it_t u20 hF
      subst u20
      refine x_catch (E := zE 3) hC [] ⟨0, 14, 17, 21⟩ [⟨0, 14, 21, 15⟩] (hE.trans rfl) (fun _ h => absurd h List.not_mem_nil) (by decide) (by decide) q725 q739 ?_
      refine X.sub (lv' := []) [] rfl ?_
      exact w_X0_driver_17 hC hE  hF
    have hF := it_f u20 hF
    cases hF
theorem hy_X0_driver : yX0_driver.cls ≠ "java/lang/invoke/MethodHandle" ∧ yX0_driver.cls ≠ "java/lang/invoke/VarHandle" ∧ (parseMethodDescriptor yX0_driver.desc).map (fun d => d.parameters.length) = some 6 := by decide +kernel
theorem m_X0_driver {Γ : zG} {l : Launch} (hfl : l.flags = flags0) {h : AH} {a0 : Nat} {x1 : Int32} {x2 : Int32} {x3 : Int32} {x4 : Int32} {a5 : Nat} {r : (Int32 × AH)} (hF : F_X0_driver h a0 x1 x2 x3 x4 a5 = some r) : zM Γ l yX0_driver (wsW_ yX0_driver cX0_driver 7 (some .int) [(0, 14, 17, 21), (0, 14, 21, 15)]) 9 215 [.ref a0, .int x1, .int x2, .int x3, .int x4, .ref a5] h (.inl (some (.int r.1))) r.2 := z_ofH hfl (by decide) (Nat.le_of_ble_eq_true rfl) fun x hG hl hC hN hE => by subst hG; subst hl; exact w_X0_driver hC hE hF
-- X0_cost
def B_X0_cost_17 (h : AH)  (t0 : Nat) : Option (Int32 × AH) := some (2, h)
def B_X0_cost_13 (h : AH)  (t0 : Nat) : Option (Int32 × AH) := some (1, h)
def F_X0_cost (h : AH) (a0 : Nat) (x1 : Int32) (x2 : Int32) (a3 : Nat) : Option (Int32 × AH) := gd (hK h a0 = 1) (ec (F_X1_cost h a0 x1 x2) (fun v11 h12 => gd (hK h12 a3 = 102 ∧ inb 0 (hL h12 a3)) (lh (wJ h12 a3 (ix 0) (Int32.toInt64 v11)) fun h17 => some (0, h17))) (fun E13 q_14 h12 => if E13 = 2 then B_X0_cost_17 h12 q_14 else if E13 = 3 then B_X0_cost_13 h12 q_14 else none))
theorem w_X0_cost_17 {cx : zX} {h0 : AH} (hC : Cx cx RX0 cX0_cost 5 9 215 (some .int) h0) (hE : cx.c.exceptionTable.toList = tableOf [(0, 10, 13, 21), (0, 10, 17, 15)]) {h : AH} {r : (Int32 × AH)}   {t0 : Nat} (hF : B_X0_cost_17 h  t0 = some r) : X cx 5 (zQ cx h0 (.inl (some (.int r.1))) r.2) h 17 [] [.ref t0] := by
  refine x_astore (lv' := [(4, .ref t0)]) hC dX0_cost_17 (by decide) [0] rfl ?_
  refine x_iconst (v := 2) hC dX0_cost_19 (by decide) ?_
  have e := some_e hF
  subst e
  exact x_iret hC dX0_cost_20
theorem w_X0_cost_13 {cx : zX} {h0 : AH} (hC : Cx cx RX0 cX0_cost 5 9 215 (some .int) h0) (hE : cx.c.exceptionTable.toList = tableOf [(0, 10, 13, 21), (0, 10, 17, 15)]) {h : AH} {r : (Int32 × AH)}   {t0 : Nat} (hF : B_X0_cost_13 h  t0 = some r) : X cx 5 (zQ cx h0 (.inl (some (.int r.1))) r.2) h 13 [] [.ref t0] := by
  refine x_astore (lv' := [(4, .ref t0)]) hC dX0_cost_13 (by decide) [0] rfl ?_
  refine x_iconst (v := 1) hC dX0_cost_15 (by decide) ?_
  have e := some_e hF
  subst e
  exact x_iret hC dX0_cost_16
theorem w_X0_cost {cx : zX} {h0 : AH} (hC : Cx cx RX0 cX0_cost 5 9 215 (some .int) h0) (hE : cx.c.exceptionTable.toList = tableOf [(0, 10, 13, 21), (0, 10, 17, 15)]) {h : AH} {a0 : Nat} {x1 : Int32} {x2 : Int32} {a3 : Nat} {r : (Int32 × AH)} (hF : F_X0_cost h a0 x1 x2 a3 = some r) : X cx 5 (zQ cx h0 (.inl (some (.int r.1))) r.2) h 0 [(0, .ref a0), (1, .int x1), (2, .int x2), (3, .ref a3)] [] := by
  refine x_aload_n hC dX0_cost_0 3 rfl ?_
  refine x_iconst (v := 0) hC dX0_cost_1 (by decide) ?_
  refine x_aload_n hC dX0_cost_2 0 rfl ?_
  refine x_iload_n hC dX0_cost_3 1 rfl ?_
  refine x_iload_n hC dX0_cost_4 2 rfl ?_
  obtain ⟨g10, hF⟩ := gd_e hF
  rcases ec_e hF with ⟨v11, h12, e15, hF⟩ | ⟨E13, q_14, h12, e15, hF⟩
  · refine xk_V (κ := 1) (As := [.int x1, .int x2]) (st := [.int 0, .ref a3]) hC (m_X1_cost hC.fl e15) g10 rfl q779 q780 q781 q782 q97 hy_X1_cost ⟨Nat.le_of_ble_eq_true rfl, Nat.le_of_ble_eq_true rfl⟩ (Nat.le_of_ble_eq_true rfl) rfl dX0_cost_5 ?_
    refine x_i2l hC dX0_cost_8 ?_
    obtain ⟨g16, hF⟩ := gd_e hF
    obtain ⟨h17, e18, hF⟩ := lh_e hF
    refine x_lastE hC e18 g16.1 g16.2 dX0_cost_9 ?_
    refine x_goto (tgt := 21) hC dX0_cost_10 (by decide) ?_
    refine x_iconst (v := 0) hC dX0_cost_21 (by decide) ?_
    have e := some_e hF
    subst e
    exact x_iret hC dX0_cost_22
  · refine xk_V (κ := 1) (As := [.int x1, .int x2]) (st := [.int 0, .ref a3]) hC (mx_X1_cost hC.fl e15) g10 rfl q779 q780 q781 q782 q97 hy_X1_cost ⟨Nat.le_of_ble_eq_true rfl, Nat.le_of_ble_eq_true rfl⟩ (Nat.le_of_ble_eq_true rfl) rfl dX0_cost_5 ?_
    by_cases u19 : E13 = 2
    · have hF := it_t u19 hF
      subst u19
      refine x_catch (E := zE 2) hC [⟨0, 10, 13, 21⟩] ⟨0, 10, 17, 15⟩ [] (hE.trans rfl) (List.forall_mem_cons.mpr ⟨Or.inr ⟨by decide, _, q725, nce_X0_2_java_util_NoSuchElementException hC⟩, fun _ h => absurd h List.not_mem_nil⟩) (by decide) (by decide) q486 q590 ?_
      refine X.sub (lv' := []) [] rfl ?_
      exact w_X0_cost_17 hC hE  hF
    have hF := it_f u19 hF
    by_cases u20 : E13 = 3
    · have hF := it_t u20 hF
      subst u20
      refine x_catch (E := zE 3) hC [] ⟨0, 10, 13, 21⟩ [⟨0, 10, 17, 15⟩] (hE.trans rfl) (fun _ h => absurd h List.not_mem_nil) (by decide) (by decide) q725 q739 ?_
      refine X.sub (lv' := []) [] rfl ?_
      exact w_X0_cost_13 hC hE  hF
    have hF := it_f u20 hF
    cases hF
theorem hy_X0_cost : yX0_cost.cls ≠ "java/lang/invoke/MethodHandle" ∧ yX0_cost.cls ≠ "java/lang/invoke/VarHandle" ∧ (parseMethodDescriptor yX0_cost.desc).map (fun d => d.parameters.length) = some 4 := by decide +kernel
theorem m_X0_cost {Γ : zG} {l : Launch} (hfl : l.flags = flags0) {h : AH} {a0 : Nat} {x1 : Int32} {x2 : Int32} {a3 : Nat} {r : (Int32 × AH)} (hF : F_X0_cost h a0 x1 x2 a3 = some r) : zM Γ l yX0_cost (wsW_ yX0_cost cX0_cost 5 (some .int) [(0, 10, 13, 21), (0, 10, 17, 15)]) 9 215 [.ref a0, .int x1, .int x2, .ref a3] h (.inl (some (.int r.1))) r.2 := z_ofH hfl (by decide) (Nat.le_of_ble_eq_true rfl) fun x hG hl hC hN hE => by subst hG; subst hl; exact w_X0_cost hC hE hF
-- X0_rise
def B_X0_rise_15 (h : AH)  (t0 : Nat) : Option (Int32 × AH) := some (1, h)
def F_X0_rise (h : AH) (a0 : Nat) (x1 : Int32) (x2 : Int32) (x3 : Int32) (a4 : Nat) : Option (Int32 × AH) := gd (hK h a0 = 1) (ec (F_X1_rise h a0 x1 x2 x3) (fun v11 h12 => gd (hK h12 a4 = 102 ∧ inb 0 (hL h12 a4)) (lh (wJ h12 a4 (ix 0) (Int32.toInt64 v11)) fun h17 => some (0, h17))) (fun E13 q_14 h12 => if E13 = 2 then B_X0_rise_15 h12 q_14 else none))
theorem w_X0_rise_15 {cx : zX} {h0 : AH} (hC : Cx cx RX0 cX0_rise 6 8 217 (some .int) h0) (hE : cx.c.exceptionTable.toList = tableOf [(0, 12, 15, 15)]) {h : AH} {r : (Int32 × AH)}   {t0 : Nat} (hF : B_X0_rise_15 h  t0 = some r) : X cx 6 (zQ cx h0 (.inl (some (.int r.1))) r.2) h 15 [] [.ref t0] := by
  refine x_astore (lv' := [(5, .ref t0)]) hC dX0_rise_15 (by decide) [0] rfl ?_
  refine x_iconst (v := 1) hC dX0_rise_17 (by decide) ?_
  have e := some_e hF
  subst e
  exact x_iret hC dX0_rise_18
theorem w_X0_rise {cx : zX} {h0 : AH} (hC : Cx cx RX0 cX0_rise 6 8 217 (some .int) h0) (hE : cx.c.exceptionTable.toList = tableOf [(0, 12, 15, 15)]) {h : AH} {a0 : Nat} {x1 : Int32} {x2 : Int32} {x3 : Int32} {a4 : Nat} {r : (Int32 × AH)} (hF : F_X0_rise h a0 x1 x2 x3 a4 = some r) : X cx 6 (zQ cx h0 (.inl (some (.int r.1))) r.2) h 0 [(0, .ref a0), (1, .int x1), (2, .int x2), (3, .int x3), (4, .ref a4)] [] := by
  refine x_aload hC dX0_rise_0 4 rfl ?_
  refine x_iconst (v := 0) hC dX0_rise_2 (by decide) ?_
  refine x_aload_n hC dX0_rise_3 0 rfl ?_
  refine x_iload_n hC dX0_rise_4 1 rfl ?_
  refine x_iload_n hC dX0_rise_5 2 rfl ?_
  refine x_iload_n hC dX0_rise_6 3 rfl ?_
  obtain ⟨g10, hF⟩ := gd_e hF
  rcases ec_e hF with ⟨v11, h12, e15, hF⟩ | ⟨E13, q_14, h12, e15, hF⟩
  · refine xk_V (κ := 1) (As := [.int x1, .int x2, .int x3]) (st := [.int 0, .ref a4]) hC (m_X1_rise hC.fl e15) g10 rfl q1723 q1724 q1725 q1726 q97 hy_X1_rise ⟨Nat.le_of_ble_eq_true rfl, Nat.le_of_ble_eq_true rfl⟩ (Nat.le_of_ble_eq_true rfl) rfl dX0_rise_7 ?_
    refine x_i2l hC dX0_rise_10 ?_
    obtain ⟨g16, hF⟩ := gd_e hF
    obtain ⟨h17, e18, hF⟩ := lh_e hF
    refine x_lastE hC e18 g16.1 g16.2 dX0_rise_11 ?_
    refine x_goto (tgt := 19) hC dX0_rise_12 (by decide) ?_
    refine x_iconst (v := 0) hC dX0_rise_19 (by decide) ?_
    have e := some_e hF
    subst e
    exact x_iret hC dX0_rise_20
  · refine xk_V (κ := 1) (As := [.int x1, .int x2, .int x3]) (st := [.int 0, .ref a4]) hC (mx_X1_rise hC.fl e15) g10 rfl q1723 q1724 q1725 q1726 q97 hy_X1_rise ⟨Nat.le_of_ble_eq_true rfl, Nat.le_of_ble_eq_true rfl⟩ (Nat.le_of_ble_eq_true rfl) rfl dX0_rise_7 ?_
    by_cases u19 : E13 = 2
    · have hF := it_t u19 hF
      subst u19
      refine x_catch (E := zE 2) hC [] ⟨0, 12, 15, 15⟩ [] (hE.trans rfl) (fun _ h => absurd h List.not_mem_nil) (by decide) (by decide) q486 q590 ?_
      refine X.sub (lv' := []) [] rfl ?_
      exact w_X0_rise_15 hC hE  hF
    have hF := it_f u19 hF
    cases hF
theorem hy_X0_rise : yX0_rise.cls ≠ "java/lang/invoke/MethodHandle" ∧ yX0_rise.cls ≠ "java/lang/invoke/VarHandle" ∧ (parseMethodDescriptor yX0_rise.desc).map (fun d => d.parameters.length) = some 5 := by decide +kernel
theorem m_X0_rise {Γ : zG} {l : Launch} (hfl : l.flags = flags0) {h : AH} {a0 : Nat} {x1 : Int32} {x2 : Int32} {x3 : Int32} {a4 : Nat} {r : (Int32 × AH)} (hF : F_X0_rise h a0 x1 x2 x3 a4 = some r) : zM Γ l yX0_rise (wsW_ yX0_rise cX0_rise 6 (some .int) [(0, 12, 15, 15)]) 8 217 [.ref a0, .int x1, .int x2, .int x3, .ref a4] h (.inl (some (.int r.1))) r.2 := z_ofH hfl (by decide) (Nat.le_of_ble_eq_true rfl) fun x hG hl hC hN hE => by subst hG; subst hl; exact w_X0_rise hC hE hF
-- X0_told
def B_X0_told_17 (h : AH)  (t0 : Nat) : Option (Int32 × AH) := some (1, h)
def B_X0_told_21 (h : AH)  (t0 : Nat) : Option (Int32 × AH) := some (2, h)
def F_X0_told (h : AH) (a0 : Nat) (x1 : Int32) (x2 : Int32) (x3 : Int32) (x4 : Int32) (a5 : Nat) : Option (Int32 × AH) := gd (hK h a0 = 1) (ec (F_X1_told h a0 x1 x2 x3 x4) (fun v11 h12 => gd (hK h12 a5 = 102 ∧ inb 0 (hL h12 a5)) (lh (wJ h12 a5 (ix 0) (Int32.toInt64 v11)) fun h17 => some (0, h17))) (fun E13 q_14 h12 => if E13 = 1 then B_X0_told_17 h12 q_14 else if E13 = 2 then B_X0_told_21 h12 q_14 else none))
theorem w_X0_told_17 {cx : zX} {h0 : AH} (hC : Cx cx RX0 cX0_told 7 8 217 (some .int) h0) (hE : cx.c.exceptionTable.toList = tableOf [(0, 14, 17, 13), (0, 14, 21, 15)]) {h : AH} {r : (Int32 × AH)}   {t0 : Nat} (hF : B_X0_told_17 h  t0 = some r) : X cx 7 (zQ cx h0 (.inl (some (.int r.1))) r.2) h 17 [] [.ref t0] := by
  refine x_astore (lv' := [(6, .ref t0)]) hC dX0_told_17 (by decide) [0] rfl ?_
  refine x_iconst (v := 1) hC dX0_told_19 (by decide) ?_
  have e := some_e hF
  subst e
  exact x_iret hC dX0_told_20
theorem w_X0_told_21 {cx : zX} {h0 : AH} (hC : Cx cx RX0 cX0_told 7 8 217 (some .int) h0) (hE : cx.c.exceptionTable.toList = tableOf [(0, 14, 17, 13), (0, 14, 21, 15)]) {h : AH} {r : (Int32 × AH)}   {t0 : Nat} (hF : B_X0_told_21 h  t0 = some r) : X cx 7 (zQ cx h0 (.inl (some (.int r.1))) r.2) h 21 [] [.ref t0] := by
  refine x_astore (lv' := [(6, .ref t0)]) hC dX0_told_21 (by decide) [0] rfl ?_
  refine x_iconst (v := 2) hC dX0_told_23 (by decide) ?_
  have e := some_e hF
  subst e
  exact x_iret hC dX0_told_24
theorem w_X0_told {cx : zX} {h0 : AH} (hC : Cx cx RX0 cX0_told 7 8 217 (some .int) h0) (hE : cx.c.exceptionTable.toList = tableOf [(0, 14, 17, 13), (0, 14, 21, 15)]) {h : AH} {a0 : Nat} {x1 : Int32} {x2 : Int32} {x3 : Int32} {x4 : Int32} {a5 : Nat} {r : (Int32 × AH)} (hF : F_X0_told h a0 x1 x2 x3 x4 a5 = some r) : X cx 7 (zQ cx h0 (.inl (some (.int r.1))) r.2) h 0 [(0, .ref a0), (1, .int x1), (2, .int x2), (3, .int x3), (4, .int x4), (5, .ref a5)] [] := by
  refine x_aload hC dX0_told_0 5 rfl ?_
  refine x_iconst (v := 0) hC dX0_told_2 (by decide) ?_
  refine x_aload_n hC dX0_told_3 0 rfl ?_
  refine x_iload_n hC dX0_told_4 1 rfl ?_
  refine x_iload_n hC dX0_told_5 2 rfl ?_
  refine x_iload_n hC dX0_told_6 3 rfl ?_
  refine x_iload hC dX0_told_7 4 rfl ?_
  obtain ⟨g10, hF⟩ := gd_e hF
  rcases ec_e hF with ⟨v11, h12, e15, hF⟩ | ⟨E13, q_14, h12, e15, hF⟩
  · refine xk_V (κ := 1) (As := [.int x1, .int x2, .int x3, .int x4]) (st := [.int 0, .ref a5]) hC (m_X1_told hC.fl e15) g10 rfl q1745 q1746 q1747 q1748 q97 hy_X1_told ⟨Nat.le_of_ble_eq_true rfl, Nat.le_of_ble_eq_true rfl⟩ (Nat.le_of_ble_eq_true rfl) rfl dX0_told_9 ?_
    refine x_i2l hC dX0_told_12 ?_
    obtain ⟨g16, hF⟩ := gd_e hF
    obtain ⟨h17, e18, hF⟩ := lh_e hF
    refine x_lastE hC e18 g16.1 g16.2 dX0_told_13 ?_
    refine x_goto (tgt := 25) hC dX0_told_14 (by decide) ?_
    refine x_iconst (v := 0) hC dX0_told_25 (by decide) ?_
    have e := some_e hF
    subst e
    exact x_iret hC dX0_told_26
  · refine xk_V (κ := 1) (As := [.int x1, .int x2, .int x3, .int x4]) (st := [.int 0, .ref a5]) hC (mx_X1_told hC.fl e15) g10 rfl q1745 q1746 q1747 q1748 q97 hy_X1_told ⟨Nat.le_of_ble_eq_true rfl, Nat.le_of_ble_eq_true rfl⟩ (Nat.le_of_ble_eq_true rfl) rfl dX0_told_9 ?_
    by_cases u19 : E13 = 1
    · have hF := it_t u19 hF
      subst u19
      refine x_catch (E := zE 1) hC [] ⟨0, 14, 17, 13⟩ [⟨0, 14, 21, 15⟩] (hE.trans rfl) (fun _ h => absurd h List.not_mem_nil) (by decide) (by decide) q485 q500 ?_
      refine X.sub (lv' := []) [] rfl ?_
      exact w_X0_told_17 hC hE  hF
    have hF := it_f u19 hF
    by_cases u20 : E13 = 2
    · have hF := it_t u20 hF
      subst u20
      refine x_catch (E := zE 2) hC [⟨0, 14, 17, 13⟩] ⟨0, 14, 21, 15⟩ [] (hE.trans rfl) (List.forall_mem_cons.mpr ⟨Or.inr ⟨by decide, _, q485, nce_X0_2_java_lang_IllegalStateException hC⟩, fun _ h => absurd h List.not_mem_nil⟩) (by decide) (by decide) q486 q590 ?_
      refine X.sub (lv' := []) [] rfl ?_
      exact w_X0_told_21 hC hE  hF
    have hF := it_f u20 hF
    cases hF
theorem hy_X0_told : yX0_told.cls ≠ "java/lang/invoke/MethodHandle" ∧ yX0_told.cls ≠ "java/lang/invoke/VarHandle" ∧ (parseMethodDescriptor yX0_told.desc).map (fun d => d.parameters.length) = some 6 := by decide +kernel
theorem m_X0_told {Γ : zG} {l : Launch} (hfl : l.flags = flags0) {h : AH} {a0 : Nat} {x1 : Int32} {x2 : Int32} {x3 : Int32} {x4 : Int32} {a5 : Nat} {r : (Int32 × AH)} (hF : F_X0_told h a0 x1 x2 x3 x4 a5 = some r) : zM Γ l yX0_told (wsW_ yX0_told cX0_told 7 (some .int) [(0, 14, 17, 13), (0, 14, 21, 15)]) 8 217 [.ref a0, .int x1, .int x2, .int x3, .int x4, .ref a5] h (.inl (some (.int r.1))) r.2 := z_ofH hfl (by decide) (Nat.le_of_ble_eq_true rfl) fun x hG hl hC hN hE => by subst hG; subst hl; exact w_X0_told hC hE hF
-- X0_law
def B_X0_law_12 (h : AH)  (t0 : Nat) : Option (Int32 × AH) := some (1, h)
def F_X0_law (h : AH) (a0 : Nat) (x1 : Int32) (a2 : Nat) : Option (Int32 × AH) := gd (hK h a0 = 1) (ec (F_X1_law h a0 x1) (fun v11 h12 => gd (hK h12 a2 = 102 ∧ inb 0 (hL h12 a2)) (lh (wJ h12 a2 (ix 0) (Int32.toInt64 v11)) fun h17 => some (0, h17))) (fun E13 q_14 h12 => if E13 = 2 then B_X0_law_12 h12 q_14 else none))
theorem w_X0_law_12 {cx : zX} {h0 : AH} (hC : Cx cx RX0 cX0_law 4 10 222 (some .int) h0) (hE : cx.c.exceptionTable.toList = tableOf [(0, 9, 12, 15)]) {h : AH} {r : (Int32 × AH)}   {t0 : Nat} (hF : B_X0_law_12 h  t0 = some r) : X cx 4 (zQ cx h0 (.inl (some (.int r.1))) r.2) h 12 [] [.ref t0] := by
  refine x_astore_n (lv' := [(3, .ref t0)]) hC dX0_law_12 (by decide) [0] rfl ?_
  refine x_iconst (v := 1) hC dX0_law_13 (by decide) ?_
  have e := some_e hF
  subst e
  exact x_iret hC dX0_law_14
theorem w_X0_law {cx : zX} {h0 : AH} (hC : Cx cx RX0 cX0_law 4 10 222 (some .int) h0) (hE : cx.c.exceptionTable.toList = tableOf [(0, 9, 12, 15)]) {h : AH} {a0 : Nat} {x1 : Int32} {a2 : Nat} {r : (Int32 × AH)} (hF : F_X0_law h a0 x1 a2 = some r) : X cx 4 (zQ cx h0 (.inl (some (.int r.1))) r.2) h 0 [(0, .ref a0), (1, .int x1), (2, .ref a2)] [] := by
  refine x_aload_n hC dX0_law_0 2 rfl ?_
  refine x_iconst (v := 0) hC dX0_law_1 (by decide) ?_
  refine x_aload_n hC dX0_law_2 0 rfl ?_
  refine x_iload_n hC dX0_law_3 1 rfl ?_
  obtain ⟨g10, hF⟩ := gd_e hF
  rcases ec_e hF with ⟨v11, h12, e15, hF⟩ | ⟨E13, q_14, h12, e15, hF⟩
  · refine xk_V (κ := 1) (As := [.int x1]) (st := [.int 0, .ref a2]) hC (m_X1_law hC.fl e15) g10 rfl q1261 q1262 q1263 q1264 q97 hy_X1_law ⟨Nat.le_of_ble_eq_true rfl, Nat.le_of_ble_eq_true rfl⟩ (Nat.le_of_ble_eq_true rfl) rfl dX0_law_4 ?_
    refine x_i2l hC dX0_law_7 ?_
    obtain ⟨g16, hF⟩ := gd_e hF
    obtain ⟨h17, e18, hF⟩ := lh_e hF
    refine x_lastE hC e18 g16.1 g16.2 dX0_law_8 ?_
    refine x_goto (tgt := 15) hC dX0_law_9 (by decide) ?_
    refine x_iconst (v := 0) hC dX0_law_15 (by decide) ?_
    have e := some_e hF
    subst e
    exact x_iret hC dX0_law_16
  · refine xk_V (κ := 1) (As := [.int x1]) (st := [.int 0, .ref a2]) hC (mx_X1_law hC.fl e15) g10 rfl q1261 q1262 q1263 q1264 q97 hy_X1_law ⟨Nat.le_of_ble_eq_true rfl, Nat.le_of_ble_eq_true rfl⟩ (Nat.le_of_ble_eq_true rfl) rfl dX0_law_4 ?_
    by_cases u19 : E13 = 2
    · have hF := it_t u19 hF
      subst u19
      refine x_catch (E := zE 2) hC [] ⟨0, 9, 12, 15⟩ [] (hE.trans rfl) (fun _ h => absurd h List.not_mem_nil) (by decide) (by decide) q486 q590 ?_
      refine X.sub (lv' := []) [] rfl ?_
      exact w_X0_law_12 hC hE  hF
    have hF := it_f u19 hF
    cases hF
theorem hy_X0_law : yX0_law.cls ≠ "java/lang/invoke/MethodHandle" ∧ yX0_law.cls ≠ "java/lang/invoke/VarHandle" ∧ (parseMethodDescriptor yX0_law.desc).map (fun d => d.parameters.length) = some 3 := by decide +kernel
theorem m_X0_law {Γ : zG} {l : Launch} (hfl : l.flags = flags0) {h : AH} {a0 : Nat} {x1 : Int32} {a2 : Nat} {r : (Int32 × AH)} (hF : F_X0_law h a0 x1 a2 = some r) : zM Γ l yX0_law (wsW_ yX0_law cX0_law 4 (some .int) [(0, 9, 12, 15)]) 10 222 [.ref a0, .int x1, .ref a2] h (.inl (some (.int r.1))) r.2 := z_ofH hfl (by decide) (Nat.le_of_ble_eq_true rfl) fun x hG hl hC hN hE => by subst hG; subst hl; exact w_X0_law hC hE hF
-- X0_run
def B_X0_run_12 (h : AH)  (t0 : Nat) : Option (Int32 × AH) := some (1, h)
def F_X0_run (h : AH) (a0 : Nat) (x1 : Int32) (a2 : Nat) : Option (Int32 × AH) := gd (hK h a0 = 1) (ec (F_X1_run h a0 x1) (fun v11 h12 => gd (hK h12 a2 = 102 ∧ inb 0 (hL h12 a2)) (lh (wJ h12 a2 (ix 0) (Int32.toInt64 v11)) fun h17 => some (0, h17))) (fun E13 q_14 h12 => if E13 = 2 then B_X0_run_12 h12 q_14 else none))
theorem w_X0_run_12 {cx : zX} {h0 : AH} (hC : Cx cx RX0 cX0_run 4 457 46096 (some .int) h0) (hE : cx.c.exceptionTable.toList = tableOf [(0, 9, 12, 15)]) {h : AH} {r : (Int32 × AH)}   {t0 : Nat} (hF : B_X0_run_12 h  t0 = some r) : X cx 4 (zQ cx h0 (.inl (some (.int r.1))) r.2) h 12 [] [.ref t0] := by
  refine x_astore_n (lv' := [(3, .ref t0)]) hC dX0_run_12 (by decide) [0] rfl ?_
  refine x_iconst (v := 1) hC dX0_run_13 (by decide) ?_
  have e := some_e hF
  subst e
  exact x_iret hC dX0_run_14
theorem w_X0_run {cx : zX} {h0 : AH} (hC : Cx cx RX0 cX0_run 4 457 46096 (some .int) h0) (hE : cx.c.exceptionTable.toList = tableOf [(0, 9, 12, 15)]) {h : AH} {a0 : Nat} {x1 : Int32} {a2 : Nat} {r : (Int32 × AH)} (hF : F_X0_run h a0 x1 a2 = some r) : X cx 4 (zQ cx h0 (.inl (some (.int r.1))) r.2) h 0 [(0, .ref a0), (1, .int x1), (2, .ref a2)] [] := by
  refine x_aload_n hC dX0_run_0 2 rfl ?_
  refine x_iconst (v := 0) hC dX0_run_1 (by decide) ?_
  refine x_aload_n hC dX0_run_2 0 rfl ?_
  refine x_iload_n hC dX0_run_3 1 rfl ?_
  obtain ⟨g10, hF⟩ := gd_e hF
  rcases ec_e hF with ⟨v11, h12, e15, hF⟩ | ⟨E13, q_14, h12, e15, hF⟩
  · refine xk_V (κ := 1) (As := [.int x1]) (st := [.int 0, .ref a2]) hC (m_X1_run hC.fl e15) g10 rfl q1287 q1288 q1289 q1290 q97 hy_X1_run ⟨Nat.le_of_ble_eq_true rfl, Nat.le_of_ble_eq_true rfl⟩ (Nat.le_of_ble_eq_true rfl) rfl dX0_run_4 ?_
    refine x_i2l hC dX0_run_7 ?_
    obtain ⟨g16, hF⟩ := gd_e hF
    obtain ⟨h17, e18, hF⟩ := lh_e hF
    refine x_lastE hC e18 g16.1 g16.2 dX0_run_8 ?_
    refine x_goto (tgt := 15) hC dX0_run_9 (by decide) ?_
    refine x_iconst (v := 0) hC dX0_run_15 (by decide) ?_
    have e := some_e hF
    subst e
    exact x_iret hC dX0_run_16
  · refine xk_V (κ := 1) (As := [.int x1]) (st := [.int 0, .ref a2]) hC (mx_X1_run hC.fl e15) g10 rfl q1287 q1288 q1289 q1290 q97 hy_X1_run ⟨Nat.le_of_ble_eq_true rfl, Nat.le_of_ble_eq_true rfl⟩ (Nat.le_of_ble_eq_true rfl) rfl dX0_run_4 ?_
    by_cases u19 : E13 = 2
    · have hF := it_t u19 hF
      subst u19
      refine x_catch (E := zE 2) hC [] ⟨0, 9, 12, 15⟩ [] (hE.trans rfl) (fun _ h => absurd h List.not_mem_nil) (by decide) (by decide) q486 q590 ?_
      refine X.sub (lv' := []) [] rfl ?_
      exact w_X0_run_12 hC hE  hF
    have hF := it_f u19 hF
    cases hF
theorem hy_X0_run : yX0_run.cls ≠ "java/lang/invoke/MethodHandle" ∧ yX0_run.cls ≠ "java/lang/invoke/VarHandle" ∧ (parseMethodDescriptor yX0_run.desc).map (fun d => d.parameters.length) = some 3 := by decide +kernel
theorem m_X0_run {Γ : zG} {l : Launch} (hfl : l.flags = flags0) {h : AH} {a0 : Nat} {x1 : Int32} {a2 : Nat} {r : (Int32 × AH)} (hF : F_X0_run h a0 x1 a2 = some r) : zM Γ l yX0_run (wsW_ yX0_run cX0_run 4 (some .int) [(0, 9, 12, 15)]) 457 46096 [.ref a0, .int x1, .ref a2] h (.inl (some (.int r.1))) r.2 := z_ofH hfl (by decide) (Nat.le_of_ble_eq_true rfl) fun x hG hl hC hN hE => by subst hG; subst hl; exact w_X0_run hC hE hF
-- X0_image
def B_X0_image_8 (h : AH)  (t0 : Nat) : Option (Int32 × AH) := some (1, h)
def F_X0_image (h : AH) (a0 : Nat) (x1 : Int32) : Option (Int32 × AH) := gd (hK h a0 = 1) (ec (F_X1_image h a0 x1) (fun _ h9 => some (0, h9)) (fun E10 q_11 h9 => if E10 = 3 then B_X0_image_8 h9 q_11 else none))
theorem w_X0_image_8 {cx : zX} {h0 : AH} (hC : Cx cx RX0 cX0_image 3 10 256 (some .int) h0) (hE : cx.c.exceptionTable.toList = tableOf [(0, 5, 8, 21)]) {h : AH} {r : (Int32 × AH)}   {t0 : Nat} (hF : B_X0_image_8 h  t0 = some r) : X cx 3 (zQ cx h0 (.inl (some (.int r.1))) r.2) h 8 [] [.ref t0] := by
  refine x_astore_n (lv' := [(2, .ref t0)]) hC dX0_image_8 (by decide) [0] rfl ?_
  refine x_iconst (v := 1) hC dX0_image_9 (by decide) ?_
  have e := some_e hF
  subst e
  exact x_iret hC dX0_image_10
theorem w_X0_image {cx : zX} {h0 : AH} (hC : Cx cx RX0 cX0_image 3 10 256 (some .int) h0) (hE : cx.c.exceptionTable.toList = tableOf [(0, 5, 8, 21)]) {h : AH} {a0 : Nat} {x1 : Int32} {r : (Int32 × AH)} (hF : F_X0_image h a0 x1 = some r) : X cx 3 (zQ cx h0 (.inl (some (.int r.1))) r.2) h 0 [(0, .ref a0), (1, .int x1)] [] := by
  refine x_aload_n hC dX0_image_0 0 rfl ?_
  refine x_iload_n hC dX0_image_1 1 rfl ?_
  obtain ⟨g7, hF⟩ := gd_e hF
  rcases ec_e hF with ⟨v8, h9, e12, hF⟩ | ⟨E10, q_11, h9, e12, hF⟩
  · refine xk_V (κ := 1) (As := [.int x1]) (st := []) hC (m_X1_image hC.fl e12) g7 rfl q1797 q1798 q1799 q1800 q97 hy_X1_image ⟨Nat.le_of_ble_eq_true rfl, Nat.le_of_ble_eq_true rfl⟩ (Nat.le_of_ble_eq_true rfl) rfl dX0_image_2 ?_
    refine x_goto (tgt := 11) hC dX0_image_5 (by decide) ?_
    refine x_iconst (v := 0) hC dX0_image_11 (by decide) ?_
    have e := some_e hF
    subst e
    exact x_iret hC dX0_image_12
  · refine xk_V (κ := 1) (As := [.int x1]) (st := []) hC (mx_X1_image hC.fl e12) g7 rfl q1797 q1798 q1799 q1800 q97 hy_X1_image ⟨Nat.le_of_ble_eq_true rfl, Nat.le_of_ble_eq_true rfl⟩ (Nat.le_of_ble_eq_true rfl) rfl dX0_image_2 ?_
    by_cases u13 : E10 = 3
    · have hF := it_t u13 hF
      subst u13
      refine x_catch (E := zE 3) hC [] ⟨0, 5, 8, 21⟩ [] (hE.trans rfl) (fun _ h => absurd h List.not_mem_nil) (by decide) (by decide) q725 q739 ?_
      refine X.sub (lv' := []) [] rfl ?_
      exact w_X0_image_8 hC hE  hF
    have hF := it_f u13 hF
    cases hF
theorem hy_X0_image : yX0_image.cls ≠ "java/lang/invoke/MethodHandle" ∧ yX0_image.cls ≠ "java/lang/invoke/VarHandle" ∧ (parseMethodDescriptor yX0_image.desc).map (fun d => d.parameters.length) = some 2 := by decide +kernel
theorem m_X0_image {Γ : zG} {l : Launch} (hfl : l.flags = flags0) {h : AH} {a0 : Nat} {x1 : Int32} {r : (Int32 × AH)} (hF : F_X0_image h a0 x1 = some r) : zM Γ l yX0_image (wsW_ yX0_image cX0_image 3 (some .int) [(0, 5, 8, 21)]) 10 256 [.ref a0, .int x1] h (.inl (some (.int r.1))) r.2 := z_ofH hfl (by decide) (Nat.le_of_ble_eq_true rfl) fun x hG hl hC hN hE => by subst hG; subst hl; exact w_X0_image hC hE hF
-- X0_restore
def B_X0_restore_11 (h : AH)  (t0 : Nat) : Option (Int32 × AH) := some (2, h)
def B_X0_restore_8 (h : AH)  (t0 : Nat) : Option (Int32 × AH) := some (1, h)
def F_X0_restore (h : AH) (a0 : Nat) (x1 : Int32) : Option (Int32 × AH) := gd (hK h a0 = 1) (ec (F_X1_restore h a0 x1) (fun _ h9 => some (0, h9)) (fun E10 q_11 h9 => if E10 = 1 then B_X0_restore_11 h9 q_11 else if E10 = 3 then B_X0_restore_8 h9 q_11 else none))
theorem w_X0_restore_11 {cx : zX} {h0 : AH} (hC : Cx cx RX0 cX0_restore 3 10 256 (some .int) h0) (hE : cx.c.exceptionTable.toList = tableOf [(0, 5, 8, 21), (0, 5, 11, 13)]) {h : AH} {r : (Int32 × AH)}   {t0 : Nat} (hF : B_X0_restore_11 h  t0 = some r) : X cx 3 (zQ cx h0 (.inl (some (.int r.1))) r.2) h 11 [] [.ref t0] := by
  refine x_astore_n (lv' := [(2, .ref t0)]) hC dX0_restore_11 (by decide) [0] rfl ?_
  refine x_iconst (v := 2) hC dX0_restore_12 (by decide) ?_
  have e := some_e hF
  subst e
  exact x_iret hC dX0_restore_13
theorem w_X0_restore_8 {cx : zX} {h0 : AH} (hC : Cx cx RX0 cX0_restore 3 10 256 (some .int) h0) (hE : cx.c.exceptionTable.toList = tableOf [(0, 5, 8, 21), (0, 5, 11, 13)]) {h : AH} {r : (Int32 × AH)}   {t0 : Nat} (hF : B_X0_restore_8 h  t0 = some r) : X cx 3 (zQ cx h0 (.inl (some (.int r.1))) r.2) h 8 [] [.ref t0] := by
  refine x_astore_n (lv' := [(2, .ref t0)]) hC dX0_restore_8 (by decide) [0] rfl ?_
  refine x_iconst (v := 1) hC dX0_restore_9 (by decide) ?_
  have e := some_e hF
  subst e
  exact x_iret hC dX0_restore_10
theorem w_X0_restore {cx : zX} {h0 : AH} (hC : Cx cx RX0 cX0_restore 3 10 256 (some .int) h0) (hE : cx.c.exceptionTable.toList = tableOf [(0, 5, 8, 21), (0, 5, 11, 13)]) {h : AH} {a0 : Nat} {x1 : Int32} {r : (Int32 × AH)} (hF : F_X0_restore h a0 x1 = some r) : X cx 3 (zQ cx h0 (.inl (some (.int r.1))) r.2) h 0 [(0, .ref a0), (1, .int x1)] [] := by
  refine x_aload_n hC dX0_restore_0 0 rfl ?_
  refine x_iload_n hC dX0_restore_1 1 rfl ?_
  obtain ⟨g7, hF⟩ := gd_e hF
  rcases ec_e hF with ⟨v8, h9, e12, hF⟩ | ⟨E10, q_11, h9, e12, hF⟩
  · refine xk_V (κ := 1) (As := [.int x1]) (st := []) hC (m_X1_restore hC.fl e12) g7 rfl q1818 q1819 q1820 q1821 q97 hy_X1_restore ⟨Nat.le_of_ble_eq_true rfl, Nat.le_of_ble_eq_true rfl⟩ (Nat.le_of_ble_eq_true rfl) rfl dX0_restore_2 ?_
    refine x_goto (tgt := 14) hC dX0_restore_5 (by decide) ?_
    refine x_iconst (v := 0) hC dX0_restore_14 (by decide) ?_
    have e := some_e hF
    subst e
    exact x_iret hC dX0_restore_15
  · refine xk_V (κ := 1) (As := [.int x1]) (st := []) hC (mx_X1_restore hC.fl e12) g7 rfl q1818 q1819 q1820 q1821 q97 hy_X1_restore ⟨Nat.le_of_ble_eq_true rfl, Nat.le_of_ble_eq_true rfl⟩ (Nat.le_of_ble_eq_true rfl) rfl dX0_restore_2 ?_
    by_cases u13 : E10 = 1
    · have hF := it_t u13 hF
      subst u13
      refine x_catch (E := zE 1) hC [⟨0, 5, 8, 21⟩] ⟨0, 5, 11, 13⟩ [] (hE.trans rfl) (List.forall_mem_cons.mpr ⟨Or.inr ⟨by decide, _, q725, nce_X0_1_java_util_NoSuchElementException hC⟩, fun _ h => absurd h List.not_mem_nil⟩) (by decide) (by decide) q485 q500 ?_
      refine X.sub (lv' := []) [] rfl ?_
      exact w_X0_restore_11 hC hE  hF
    have hF := it_f u13 hF
    by_cases u14 : E10 = 3
    · have hF := it_t u14 hF
      subst u14
      refine x_catch (E := zE 3) hC [] ⟨0, 5, 8, 21⟩ [⟨0, 5, 11, 13⟩] (hE.trans rfl) (fun _ h => absurd h List.not_mem_nil) (by decide) (by decide) q725 q739 ?_
      refine X.sub (lv' := []) [] rfl ?_
      exact w_X0_restore_8 hC hE  hF
    have hF := it_f u14 hF
    cases hF
theorem hy_X0_restore : yX0_restore.cls ≠ "java/lang/invoke/MethodHandle" ∧ yX0_restore.cls ≠ "java/lang/invoke/VarHandle" ∧ (parseMethodDescriptor yX0_restore.desc).map (fun d => d.parameters.length) = some 2 := by decide +kernel
theorem m_X0_restore {Γ : zG} {l : Launch} (hfl : l.flags = flags0) {h : AH} {a0 : Nat} {x1 : Int32} {r : (Int32 × AH)} (hF : F_X0_restore h a0 x1 = some r) : zM Γ l yX0_restore (wsW_ yX0_restore cX0_restore 3 (some .int) [(0, 5, 8, 21), (0, 5, 11, 13)]) 10 256 [.ref a0, .int x1] h (.inl (some (.int r.1))) r.2 := z_ofH hfl (by decide) (Nat.le_of_ble_eq_true rfl) fun x hG hl hC hN hE => by subst hG; subst hl; exact w_X0_restore hC hE hF
-- X0_rules
def B_X0_rules_17 (h : AH)  (t0 : Nat) : Option (Int32 × AH) := some (2, h)
def B_X0_rules_13 (h : AH)  (t0 : Nat) : Option (Int32 × AH) := some (1, h)
def F_X0_rules (h : AH) (a0 : Nat) (x1 : Int32) (x2 : Int32) (a3 : Nat) : Option (Int32 × AH) := gd (hK h a0 = 1) (ec (F_X1_rules h a0 x1 x2) (fun v11 h12 => gd (hK h12 a3 = 102 ∧ inb 0 (hL h12 a3)) (lh (wJ h12 a3 (ix 0) (Int32.toInt64 v11)) fun h17 => some (0, h17))) (fun E13 q_14 h12 => if E13 = 2 then B_X0_rules_17 h12 q_14 else if E13 = 3 then B_X0_rules_13 h12 q_14 else none))
theorem w_X0_rules_17 {cx : zX} {h0 : AH} (hC : Cx cx RX0 cX0_rules 5 20 442 (some .int) h0) (hE : cx.c.exceptionTable.toList = tableOf [(0, 10, 13, 21), (0, 10, 17, 15)]) {h : AH} {r : (Int32 × AH)}   {t0 : Nat} (hF : B_X0_rules_17 h  t0 = some r) : X cx 5 (zQ cx h0 (.inl (some (.int r.1))) r.2) h 17 [] [.ref t0] := by
  refine x_astore (lv' := [(4, .ref t0)]) hC dX0_rules_17 (by decide) [0] rfl ?_
  refine x_iconst (v := 2) hC dX0_rules_19 (by decide) ?_
  have e := some_e hF
  subst e
  exact x_iret hC dX0_rules_20
theorem w_X0_rules_13 {cx : zX} {h0 : AH} (hC : Cx cx RX0 cX0_rules 5 20 442 (some .int) h0) (hE : cx.c.exceptionTable.toList = tableOf [(0, 10, 13, 21), (0, 10, 17, 15)]) {h : AH} {r : (Int32 × AH)}   {t0 : Nat} (hF : B_X0_rules_13 h  t0 = some r) : X cx 5 (zQ cx h0 (.inl (some (.int r.1))) r.2) h 13 [] [.ref t0] := by
  refine x_astore (lv' := [(4, .ref t0)]) hC dX0_rules_13 (by decide) [0] rfl ?_
  refine x_iconst (v := 1) hC dX0_rules_15 (by decide) ?_
  have e := some_e hF
  subst e
  exact x_iret hC dX0_rules_16
theorem w_X0_rules {cx : zX} {h0 : AH} (hC : Cx cx RX0 cX0_rules 5 20 442 (some .int) h0) (hE : cx.c.exceptionTable.toList = tableOf [(0, 10, 13, 21), (0, 10, 17, 15)]) {h : AH} {a0 : Nat} {x1 : Int32} {x2 : Int32} {a3 : Nat} {r : (Int32 × AH)} (hF : F_X0_rules h a0 x1 x2 a3 = some r) : X cx 5 (zQ cx h0 (.inl (some (.int r.1))) r.2) h 0 [(0, .ref a0), (1, .int x1), (2, .int x2), (3, .ref a3)] [] := by
  refine x_aload_n hC dX0_rules_0 3 rfl ?_
  refine x_iconst (v := 0) hC dX0_rules_1 (by decide) ?_
  refine x_aload_n hC dX0_rules_2 0 rfl ?_
  refine x_iload_n hC dX0_rules_3 1 rfl ?_
  refine x_iload_n hC dX0_rules_4 2 rfl ?_
  obtain ⟨g10, hF⟩ := gd_e hF
  rcases ec_e hF with ⟨v11, h12, e15, hF⟩ | ⟨E13, q_14, h12, e15, hF⟩
  · refine xk_V (κ := 1) (As := [.int x1, .int x2]) (st := [.int 0, .ref a3]) hC (m_X1_rules hC.fl e15) g10 rfl q821 q822 q823 q824 q97 hy_X1_rules ⟨Nat.le_of_ble_eq_true rfl, Nat.le_of_ble_eq_true rfl⟩ (Nat.le_of_ble_eq_true rfl) rfl dX0_rules_5 ?_
    refine x_i2l hC dX0_rules_8 ?_
    obtain ⟨g16, hF⟩ := gd_e hF
    obtain ⟨h17, e18, hF⟩ := lh_e hF
    refine x_lastE hC e18 g16.1 g16.2 dX0_rules_9 ?_
    refine x_goto (tgt := 21) hC dX0_rules_10 (by decide) ?_
    refine x_iconst (v := 0) hC dX0_rules_21 (by decide) ?_
    have e := some_e hF
    subst e
    exact x_iret hC dX0_rules_22
  · refine xk_V (κ := 1) (As := [.int x1, .int x2]) (st := [.int 0, .ref a3]) hC (mx_X1_rules hC.fl e15) g10 rfl q821 q822 q823 q824 q97 hy_X1_rules ⟨Nat.le_of_ble_eq_true rfl, Nat.le_of_ble_eq_true rfl⟩ (Nat.le_of_ble_eq_true rfl) rfl dX0_rules_5 ?_
    by_cases u19 : E13 = 2
    · have hF := it_t u19 hF
      subst u19
      refine x_catch (E := zE 2) hC [⟨0, 10, 13, 21⟩] ⟨0, 10, 17, 15⟩ [] (hE.trans rfl) (List.forall_mem_cons.mpr ⟨Or.inr ⟨by decide, _, q725, nce_X0_2_java_util_NoSuchElementException hC⟩, fun _ h => absurd h List.not_mem_nil⟩) (by decide) (by decide) q486 q590 ?_
      refine X.sub (lv' := []) [] rfl ?_
      exact w_X0_rules_17 hC hE  hF
    have hF := it_f u19 hF
    by_cases u20 : E13 = 3
    · have hF := it_t u20 hF
      subst u20
      refine x_catch (E := zE 3) hC [] ⟨0, 10, 13, 21⟩ [⟨0, 10, 17, 15⟩] (hE.trans rfl) (fun _ h => absurd h List.not_mem_nil) (by decide) (by decide) q725 q739 ?_
      refine X.sub (lv' := []) [] rfl ?_
      exact w_X0_rules_13 hC hE  hF
    have hF := it_f u20 hF
    cases hF
theorem hy_X0_rules : yX0_rules.cls ≠ "java/lang/invoke/MethodHandle" ∧ yX0_rules.cls ≠ "java/lang/invoke/VarHandle" ∧ (parseMethodDescriptor yX0_rules.desc).map (fun d => d.parameters.length) = some 4 := by decide +kernel
theorem m_X0_rules {Γ : zG} {l : Launch} (hfl : l.flags = flags0) {h : AH} {a0 : Nat} {x1 : Int32} {x2 : Int32} {a3 : Nat} {r : (Int32 × AH)} (hF : F_X0_rules h a0 x1 x2 a3 = some r) : zM Γ l yX0_rules (wsW_ yX0_rules cX0_rules 5 (some .int) [(0, 10, 13, 21), (0, 10, 17, 15)]) 20 442 [.ref a0, .int x1, .int x2, .ref a3] h (.inl (some (.int r.1))) r.2 := z_ofH hfl (by decide) (Nat.le_of_ble_eq_true rfl) fun x hG hl hC hN hE => by subst hG; subst hl; exact w_X0_rules hC hE hF
-- L_law
def B_L_law_2929 (h : AH) (L : Nat) (xs : Nat → Int32)   : Option (Int32 × AH) := some (1, h)
def B_L_law_2923 (h : AH) (L : Nat) (xs : Nat → Int32) (kh23 : AH → Nat → Nat → Nat → Int32 → Option (Int32 × AH)) (a1 : Nat) (a2 : Nat) (a3 : Nat) (x4 : Int32) : Option (Int32 × AH) := kh23 h a1 a2 a3 (x4 + 6)
def B_L_law_293 (h : AH) (L : Nat) (xs : Nat → Int32) (kh23 : AH → Nat → Nat → Nat → Int32 → Option (Int32 × AH)) (a1 : Nat) (a2 : Nat) (a3 : Nat) (x4 : Int32) : Option (Int32 × AH) := B_L_law_2923 h L xs kh23 a1 a2 a3 x4
def B_L_law_291 (h : AH) (L : Nat) (xs : Nat → Int32)   : Option (Int32 × AH) := some (0, h)
def B_L_law_274 (h : AH) (L : Nat) (xs : Nat → Int32)   : Option (Int32 × AH) := some (0, h)
def B_L_law_216 (h : AH) (L : Nat) (xs : Nat → Int32) (kh23 : AH → Nat → Nat → Nat → Int32 → Option (Int32 × AH)) (a1 : Nat) (a2 : Nat) (a3 : Nat) (x4 : Int32) : Option (Int32 × AH) := gd (inb (x4 + 1) L) (gd (inb (x4 + 2) L) (gd (inb (x4 + 3) L) (Option.bind (F_X0_station h a1 (xs (ix (x4 + 1))) (xs (ix (x4 + 2))) (xs (ix (x4 + 3))) a3) fun r542 => gd (inb (x4 + 1) L) (gd (inb (x4 + 2) L) (gd (inb (x4 + 3) L) (gd (hK r542.2 a2 = 8) (Option.bind (F_X8_station r542.2 a2 (xs (ix (x4 + 1))) (xs (ix (x4 + 2))) (xs (ix (x4 + 3)))) fun r548 => gd (hK r548.2 a2 = 8) (Option.bind (F_X8_thrown r548.2 a2) fun r551 => if r551 = r542.1 then if r542.1 = 0 then gd (hK r548.2 a3 = 102 ∧ inb 0 (hL r548.2 a3)) (if (lg_cmp (hJ r548.2 a3 (ix 0)) (Int32.toInt64 r548.1)) = 0 then B_L_law_293 r548.2 L xs kh23 a1 a2 a3 x4 else B_L_law_291 r548.2 L xs) else B_L_law_293 r548.2 L xs kh23 a1 a2 a3 x4 else B_L_law_274 r548.2 L xs))))))))
def B_L_law_385 (h : AH) (L : Nat) (xs : Nat → Int32) (kh23 : AH → Nat → Nat → Nat → Int32 → Option (Int32 × AH)) (a1 : Nat) (a2 : Nat) (a3 : Nat) (x4 : Int32) : Option (Int32 × AH) := B_L_law_2923 h L xs kh23 a1 a2 a3 x4
def B_L_law_383 (h : AH) (L : Nat) (xs : Nat → Int32)   : Option (Int32 × AH) := some (0, h)
def B_L_law_366 (h : AH) (L : Nat) (xs : Nat → Int32)   : Option (Int32 × AH) := some (0, h)
def B_L_law_296 (h : AH) (L : Nat) (xs : Nat → Int32) (kh23 : AH → Nat → Nat → Nat → Int32 → Option (Int32 × AH)) (a1 : Nat) (a2 : Nat) (a3 : Nat) (x4 : Int32) : Option (Int32 × AH) := gd (inb (x4 + 1) L) (gd (inb (x4 + 2) L) (gd (inb (x4 + 3) L) (gd (inb (x4 + 4) L) (Option.bind (F_X0_driver h a1 (xs (ix (x4 + 1))) (xs (ix (x4 + 2))) (xs (ix (x4 + 3))) (xs (ix (x4 + 4))) a3) fun r561 => gd (inb (x4 + 1) L) (gd (inb (x4 + 2) L) (gd (inb (x4 + 3) L) (gd (inb (x4 + 4) L) (gd (hK r561.2 a2 = 8) (Option.bind (F_X8_driver r561.2 a2 (xs (ix (x4 + 1))) (xs (ix (x4 + 2))) (xs (ix (x4 + 3))) (xs (ix (x4 + 4)))) fun r568 => gd (hK r568.2 a2 = 8) (Option.bind (F_X8_thrown r568.2 a2) fun r571 => if r571 = r561.1 then if r561.1 = 0 then gd (hK r568.2 a3 = 102 ∧ inb 0 (hL r568.2 a3)) (if (lg_cmp (hJ r568.2 a3 (ix 0)) (Int32.toInt64 r568.1)) = 0 then B_L_law_385 r568.2 L xs kh23 a1 a2 a3 x4 else B_L_law_383 r568.2 L xs) else B_L_law_385 r568.2 L xs kh23 a1 a2 a3 x4 else B_L_law_366 r568.2 L xs))))))))))
def B_L_law_453 (h : AH) (L : Nat) (xs : Nat → Int32) (kh23 : AH → Nat → Nat → Nat → Int32 → Option (Int32 × AH)) (a1 : Nat) (a2 : Nat) (a3 : Nat) (x4 : Int32) : Option (Int32 × AH) := B_L_law_2923 h L xs kh23 a1 a2 a3 x4
def B_L_law_451 (h : AH) (L : Nat) (xs : Nat → Int32)   : Option (Int32 × AH) := some (0, h)
def B_L_law_434 (h : AH) (L : Nat) (xs : Nat → Int32)   : Option (Int32 × AH) := some (0, h)
def B_L_law_388 (h : AH) (L : Nat) (xs : Nat → Int32) (kh23 : AH → Nat → Nat → Nat → Int32 → Option (Int32 × AH)) (a1 : Nat) (a2 : Nat) (a3 : Nat) (x4 : Int32) : Option (Int32 × AH) := gd (inb (x4 + 1) L) (gd (inb (x4 + 2) L) (Option.bind (F_X0_cost h a1 (xs (ix (x4 + 1))) (xs (ix (x4 + 2))) a3) fun r579 => gd (inb (x4 + 1) L) (gd (inb (x4 + 2) L) (gd (hK r579.2 a2 = 8) (Option.bind (F_X8_cost r579.2 a2 (xs (ix (x4 + 1))) (xs (ix (x4 + 2)))) fun r584 => gd (hK r584.2 a2 = 8) (Option.bind (F_X8_thrown r584.2 a2) fun r587 => if r587 = r579.1 then if r579.1 = 0 then gd (hK r584.2 a3 = 102 ∧ inb 0 (hL r584.2 a3)) (if (lg_cmp (hJ r584.2 a3 (ix 0)) (Int32.toInt64 r584.1)) = 0 then B_L_law_453 r584.2 L xs kh23 a1 a2 a3 x4 else B_L_law_451 r584.2 L xs) else B_L_law_453 r584.2 L xs kh23 a1 a2 a3 x4 else B_L_law_434 r584.2 L xs))))))
def B_L_law_521 (h : AH) (L : Nat) (xs : Nat → Int32) (kh23 : AH → Nat → Nat → Nat → Int32 → Option (Int32 × AH)) (a1 : Nat) (a2 : Nat) (a3 : Nat) (x4 : Int32) : Option (Int32 × AH) := B_L_law_2923 h L xs kh23 a1 a2 a3 x4
def B_L_law_519 (h : AH) (L : Nat) (xs : Nat → Int32)   : Option (Int32 × AH) := some (0, h)
def B_L_law_502 (h : AH) (L : Nat) (xs : Nat → Int32)   : Option (Int32 × AH) := some (0, h)
def B_L_law_456 (h : AH) (L : Nat) (xs : Nat → Int32) (kh23 : AH → Nat → Nat → Nat → Int32 → Option (Int32 × AH)) (a1 : Nat) (a2 : Nat) (a3 : Nat) (x4 : Int32) : Option (Int32 × AH) := gd (inb (x4 + 1) L) (gd (inb (x4 + 2) L) (Option.bind (F_X0_late h a1 (xs (ix (x4 + 1))) (xs (ix (x4 + 2))) a3) fun r595 => gd (inb (x4 + 1) L) (gd (inb (x4 + 2) L) (gd (hK r595.2 a2 = 8) (Option.bind (F_X8_late r595.2 a2 (xs (ix (x4 + 1))) (xs (ix (x4 + 2)))) fun r600 => gd (hK r600.2 a2 = 8) (Option.bind (F_X8_thrown r600.2 a2) fun r603 => if r603 = r595.1 then if r595.1 = 0 then gd (hK r600.2 a3 = 102 ∧ inb 0 (hL r600.2 a3)) (if (lg_cmp (hJ r600.2 a3 (ix 0)) (Int32.toInt64 r600.1)) = 0 then B_L_law_521 r600.2 L xs kh23 a1 a2 a3 x4 else B_L_law_519 r600.2 L xs) else B_L_law_521 r600.2 L xs kh23 a1 a2 a3 x4 else B_L_law_502 r600.2 L xs))))))
def B_L_law_595 (h : AH) (L : Nat) (xs : Nat → Int32)   : Option (Int32 × AH) := some (0, h)
def B_L_law_524 (h : AH) (L : Nat) (xs : Nat → Int32) (kh23 : AH → Nat → Nat → Nat → Int32 → Option (Int32 × AH)) (a1 : Nat) (a2 : Nat) (a3 : Nat) (x4 : Int32) : Option (Int32 × AH) := gd (inb (x4 + 1) L) (gd (inb (x4 + 2) L) (gd (inb (x4 + 3) L) (gd (inb (x4 + 4) L) (gd (inb (x4 + 5) L) (gd (hK h a1 = 1) (Option.bind (F_X1_feed h a1 (xs (ix (x4 + 1))) (xs (ix (x4 + 2))) (xs (ix (x4 + 3))) (xs (ix (x4 + 4))) (xs (ix (x4 + 5)))) fun r615 => gd (inb (x4 + 1) L) (gd (inb (x4 + 2) L) (gd (inb (x4 + 3) L) (gd (inb (x4 + 4) L) (gd (inb (x4 + 5) L) (gd (hK r615.2 a2 = 8) (Option.bind (F_X8_feed r615.2 a2 (xs (ix (x4 + 1))) (xs (ix (x4 + 2))) (xs (ix (x4 + 3))) (xs (ix (x4 + 4))) (xs (ix (x4 + 5)))) fun r623 => if r615.1 = r623.1 then B_L_law_2923 r623.2 L xs kh23 a1 a2 a3 x4 else B_L_law_595 r623.2 L xs))))))))))))
def B_L_law_662 (h : AH) (L : Nat) (xs : Nat → Int32) (kh23 : AH → Nat → Nat → Nat → Int32 → Option (Int32 × AH)) (a1 : Nat) (a2 : Nat) (a3 : Nat) (x4 : Int32) : Option (Int32 × AH) := B_L_law_2923 h L xs kh23 a1 a2 a3 x4
def B_L_law_660 (h : AH) (L : Nat) (xs : Nat → Int32)   : Option (Int32 × AH) := some (0, h)
def B_L_law_643 (h : AH) (L : Nat) (xs : Nat → Int32)   : Option (Int32 × AH) := some (0, h)
def B_L_law_597 (h : AH) (L : Nat) (xs : Nat → Int32) (kh23 : AH → Nat → Nat → Nat → Int32 → Option (Int32 × AH)) (a1 : Nat) (a2 : Nat) (a3 : Nat) (x4 : Int32) : Option (Int32 × AH) := gd (inb (x4 + 1) L) (gd (inb (x4 + 2) L) (Option.bind (F_X0_rules h a1 (xs (ix (x4 + 1))) (xs (ix (x4 + 2))) a3) fun r628 => gd (inb (x4 + 1) L) (gd (inb (x4 + 2) L) (gd (hK r628.2 a2 = 8) (Option.bind (F_X8_rules r628.2 a2 (xs (ix (x4 + 1))) (xs (ix (x4 + 2)))) fun r633 => gd (hK r633.2 a2 = 8) (Option.bind (F_X8_thrown r633.2 a2) fun r636 => if r636 = r628.1 then if r628.1 = 0 then gd (hK r633.2 a3 = 102 ∧ inb 0 (hL r633.2 a3)) (if (lg_cmp (hJ r633.2 a3 (ix 0)) (Int32.toInt64 r633.1)) = 0 then B_L_law_662 r633.2 L xs kh23 a1 a2 a3 x4 else B_L_law_660 r633.2 L xs) else B_L_law_662 r633.2 L xs kh23 a1 a2 a3 x4 else B_L_law_643 r633.2 L xs))))))
def B_L_law_718 (h : AH) (L : Nat) (xs : Nat → Int32) (kh23 : AH → Nat → Nat → Nat → Int32 → Option (Int32 × AH)) (a1 : Nat) (a2 : Nat) (a3 : Nat) (x4 : Int32) : Option (Int32 × AH) := B_L_law_2923 h L xs kh23 a1 a2 a3 x4
def B_L_law_716 (h : AH) (L : Nat) (xs : Nat → Int32)   : Option (Int32 × AH) := some (0, h)
def B_L_law_699 (h : AH) (L : Nat) (xs : Nat → Int32)   : Option (Int32 × AH) := some (0, h)
def B_L_law_665 (h : AH) (L : Nat) (xs : Nat → Int32) (kh23 : AH → Nat → Nat → Nat → Int32 → Option (Int32 × AH)) (a1 : Nat) (a2 : Nat) (a3 : Nat) (x4 : Int32) : Option (Int32 × AH) := gd (inb (x4 + 1) L) (Option.bind (F_X0_law h a1 (xs (ix (x4 + 1))) a3) fun r643 => gd (inb (x4 + 1) L) (gd (hK r643.2 a2 = 8) (Option.bind (F_X8_law r643.2 a2 (xs (ix (x4 + 1)))) fun r647 => gd (hK r647.2 a2 = 8) (Option.bind (F_X8_thrown r647.2 a2) fun r650 => if r650 = r643.1 then if r643.1 = 0 then gd (hK r647.2 a3 = 102 ∧ inb 0 (hL r647.2 a3)) (if (lg_cmp (hJ r647.2 a3 (ix 0)) (Int32.toInt64 r647.1)) = 0 then B_L_law_718 r647.2 L xs kh23 a1 a2 a3 x4 else B_L_law_716 r647.2 L xs) else B_L_law_718 r647.2 L xs kh23 a1 a2 a3 x4 else B_L_law_699 r647.2 L xs))))
def B_L_law_744 (h : AH) (L : Nat) (xs : Nat → Int32)   : Option (Int32 × AH) := some (0, h)
def B_L_law_721 (h : AH) (L : Nat) (xs : Nat → Int32) (kh23 : AH → Nat → Nat → Nat → Int32 → Option (Int32 × AH)) (a1 : Nat) (a2 : Nat) (a3 : Nat) (x4 : Int32) : Option (Int32 × AH) := gd (inb (x4 + 1) L) (gd (hK h a1 = 1) (Option.bind (F_X1_fault h a1 (xs (ix (x4 + 1)))) fun r658 => gd (inb (x4 + 1) L) (gd (hK h a2 = 8) (Option.bind (F_X8_fault h a2 (xs (ix (x4 + 1)))) fun r662 => if r658 = r662.1 then B_L_law_2923 r662.2 L xs kh23 a1 a2 a3 x4 else B_L_law_744 r662.2 L xs))))
def B_L_law_799 (h : AH) (L : Nat) (xs : Nat → Int32) (kh23 : AH → Nat → Nat → Nat → Int32 → Option (Int32 × AH)) (a1 : Nat) (a2 : Nat) (a3 : Nat) (x4 : Int32) : Option (Int32 × AH) := B_L_law_2923 h L xs kh23 a1 a2 a3 x4
def B_L_law_797 (h : AH) (L : Nat) (xs : Nat → Int32)   : Option (Int32 × AH) := some (0, h)
def B_L_law_780 (h : AH) (L : Nat) (xs : Nat → Int32)   : Option (Int32 × AH) := some (0, h)
def B_L_law_746 (h : AH) (L : Nat) (xs : Nat → Int32) (kh23 : AH → Nat → Nat → Nat → Int32 → Option (Int32 × AH)) (a1 : Nat) (a2 : Nat) (a3 : Nat) (x4 : Int32) : Option (Int32 × AH) := gd (inb (x4 + 1) L) (Option.bind (F_X0_run h a1 (xs (ix (x4 + 1))) a3) fun r666 => gd (inb (x4 + 1) L) (gd (hK r666.2 a2 = 8) (Option.bind (F_X8_run r666.2 a2 (xs (ix (x4 + 1)))) fun r670 => gd (hK r670.2 a2 = 8) (Option.bind (F_X8_thrown r670.2 a2) fun r673 => if r673 = r666.1 then if r666.1 = 0 then gd (hK r670.2 a3 = 102 ∧ inb 0 (hL r670.2 a3)) (if (lg_cmp (hJ r670.2 a3 (ix 0)) (Int32.toInt64 r670.1)) = 0 then B_L_law_799 r670.2 L xs kh23 a1 a2 a3 x4 else B_L_law_797 r670.2 L xs) else B_L_law_799 r670.2 L xs kh23 a1 a2 a3 x4 else B_L_law_780 r670.2 L xs))))
def B_L_law_855 (h : AH) (L : Nat) (xs : Nat → Int32) (kh23 : AH → Nat → Nat → Nat → Int32 → Option (Int32 × AH)) (a1 : Nat) (a2 : Nat) (a3 : Nat) (x4 : Int32) : Option (Int32 × AH) := B_L_law_2923 h L xs kh23 a1 a2 a3 x4
def B_L_law_853 (h : AH) (L : Nat) (xs : Nat → Int32)   : Option (Int32 × AH) := some (0, h)
def B_L_law_836 (h : AH) (L : Nat) (xs : Nat → Int32)   : Option (Int32 × AH) := some (0, h)
def B_L_law_802 (h : AH) (L : Nat) (xs : Nat → Int32) (kh23 : AH → Nat → Nat → Nat → Int32 → Option (Int32 × AH)) (a1 : Nat) (a2 : Nat) (a3 : Nat) (x4 : Int32) : Option (Int32 × AH) := gd (inb (x4 + 1) L) (Option.bind (F_X0_price h a1 (xs (ix (x4 + 1))) a3) fun r680 => gd (inb (x4 + 1) L) (gd (hK r680.2 a2 = 8) (Option.bind (F_X8_price r680.2 a2 (xs (ix (x4 + 1)))) fun r684 => gd (hK r684.2 a2 = 8) (Option.bind (F_X8_thrown r684.2 a2) fun r687 => if r687 = r680.1 then if r680.1 = 0 then gd (hK r684.2 a3 = 102 ∧ inb 0 (hL r684.2 a3)) (if (lg_cmp (hJ r684.2 a3 (ix 0)) (Int32.toInt64 r684.1)) = 0 then B_L_law_855 r684.2 L xs kh23 a1 a2 a3 x4 else B_L_law_853 r684.2 L xs) else B_L_law_855 r684.2 L xs kh23 a1 a2 a3 x4 else B_L_law_836 r684.2 L xs))))
def B_L_law_923 (h : AH) (L : Nat) (xs : Nat → Int32) (kh23 : AH → Nat → Nat → Nat → Int32 → Option (Int32 × AH)) (a1 : Nat) (a2 : Nat) (a3 : Nat) (x4 : Int32) : Option (Int32 × AH) := B_L_law_2923 h L xs kh23 a1 a2 a3 x4
def B_L_law_921 (h : AH) (L : Nat) (xs : Nat → Int32)   : Option (Int32 × AH) := some (0, h)
def B_L_law_904 (h : AH) (L : Nat) (xs : Nat → Int32)   : Option (Int32 × AH) := some (0, h)
def B_L_law_858 (h : AH) (L : Nat) (xs : Nat → Int32) (kh23 : AH → Nat → Nat → Nat → Int32 → Option (Int32 × AH)) (a1 : Nat) (a2 : Nat) (a3 : Nat) (x4 : Int32) : Option (Int32 × AH) := gd (inb (x4 + 1) L) (gd (inb (x4 + 2) L) (Option.bind (F_X0_board h a1 (xs (ix (x4 + 1))) (xs (ix (x4 + 2))) a3) fun r695 => gd (inb (x4 + 1) L) (gd (inb (x4 + 2) L) (gd (hK r695.2 a2 = 8) (Option.bind (F_X8_board r695.2 a2 (xs (ix (x4 + 1))) (xs (ix (x4 + 2)))) fun r700 => gd (hK r700.2 a2 = 8) (Option.bind (F_X8_thrown r700.2 a2) fun r703 => if r703 = r695.1 then if r695.1 = 0 then gd (hK r700.2 a3 = 102 ∧ inb 0 (hL r700.2 a3)) (if (lg_cmp (hJ r700.2 a3 (ix 0)) (Int32.toInt64 r700.1)) = 0 then B_L_law_923 r700.2 L xs kh23 a1 a2 a3 x4 else B_L_law_921 r700.2 L xs) else B_L_law_923 r700.2 L xs kh23 a1 a2 a3 x4 else B_L_law_904 r700.2 L xs))))))
def B_L_law_979 (h : AH) (L : Nat) (xs : Nat → Int32) (kh23 : AH → Nat → Nat → Nat → Int32 → Option (Int32 × AH)) (a1 : Nat) (a2 : Nat) (a3 : Nat) (x4 : Int32) : Option (Int32 × AH) := B_L_law_2923 h L xs kh23 a1 a2 a3 x4
def B_L_law_977 (h : AH) (L : Nat) (xs : Nat → Int32)   : Option (Int32 × AH) := some (0, h)
def B_L_law_960 (h : AH) (L : Nat) (xs : Nat → Int32)   : Option (Int32 × AH) := some (0, h)
def B_L_law_926 (h : AH) (L : Nat) (xs : Nat → Int32) (kh23 : AH → Nat → Nat → Nat → Int32 → Option (Int32 × AH)) (a1 : Nat) (a2 : Nat) (a3 : Nat) (x4 : Int32) : Option (Int32 × AH) := gd (inb (x4 + 1) L) (Option.bind (F_X0_would h a1 (xs (ix (x4 + 1))) a3) fun r710 => gd (inb (x4 + 1) L) (gd (hK r710.2 a2 = 8) (Option.bind (F_X8_would r710.2 a2 (xs (ix (x4 + 1)))) fun r714 => gd (hK r714.2 a2 = 8) (Option.bind (F_X8_thrown r714.2 a2) fun r717 => if r717 = r710.1 then if r710.1 = 0 then gd (hK r714.2 a3 = 102 ∧ inb 0 (hL r714.2 a3)) (if (lg_cmp (hJ r714.2 a3 (ix 0)) (Int32.toInt64 r714.1)) = 0 then B_L_law_979 r714.2 L xs kh23 a1 a2 a3 x4 else B_L_law_977 r714.2 L xs) else B_L_law_979 r714.2 L xs kh23 a1 a2 a3 x4 else B_L_law_960 r714.2 L xs))))
def B_L_law_1046 (h : AH) (L : Nat) (xs : Nat → Int32) (kh23 : AH → Nat → Nat → Nat → Int32 → Option (Int32 × AH)) (a1 : Nat) (a2 : Nat) (a3 : Nat) (x4 : Int32) : Option (Int32 × AH) := B_L_law_2923 h L xs kh23 a1 a2 a3 x4
def B_L_law_1044 (h : AH) (L : Nat) (xs : Nat → Int32)   : Option (Int32 × AH) := some (0, h)
def B_L_law_1028 (h : AH) (L : Nat) (xs : Nat → Int32)   : Option (Int32 × AH) := some (0, h)
def B_L_law_982 (h : AH) (L : Nat) (xs : Nat → Int32) (kh23 : AH → Nat → Nat → Nat → Int32 → Option (Int32 × AH)) (a1 : Nat) (a2 : Nat) (a3 : Nat) (x4 : Int32) : Option (Int32 × AH) := gd (inb (x4 + 1) L) (gd (inb (x4 + 2) L) (Option.bind (F_X0_of h a1 (xs (ix (x4 + 1))) (xs (ix (x4 + 2))) a3) fun r725 => gd (inb (x4 + 1) L) (gd (inb (x4 + 2) L) (gd (hK r725.2 a2 = 8) (Option.bind (F_X8_of r725.2 a2 (xs (ix (x4 + 1))) (xs (ix (x4 + 2)))) fun r730 => gd (hK r730.2 a2 = 8) (Option.bind (F_X8_thrown r730.2 a2) fun r733 => if r733 = r725.1 then if r725.1 = 0 then gd (hK r730.2 a3 = 102 ∧ inb 0 (hL r730.2 a3)) (if (lg_cmp (hJ r730.2 a3 (ix 0)) r730.1) = 0 then B_L_law_1046 r730.2 L xs kh23 a1 a2 a3 x4 else B_L_law_1044 r730.2 L xs) else B_L_law_1046 r730.2 L xs kh23 a1 a2 a3 x4 else B_L_law_1028 r730.2 L xs))))))
def B_L_law_1102 (h : AH) (L : Nat) (xs : Nat → Int32) (kh23 : AH → Nat → Nat → Nat → Int32 → Option (Int32 × AH)) (a1 : Nat) (a2 : Nat) (a3 : Nat) (x4 : Int32) : Option (Int32 × AH) := B_L_law_2923 h L xs kh23 a1 a2 a3 x4
def B_L_law_1100 (h : AH) (L : Nat) (xs : Nat → Int32)   : Option (Int32 × AH) := some (0, h)
def B_L_law_1083 (h : AH) (L : Nat) (xs : Nat → Int32)   : Option (Int32 × AH) := some (0, h)
def B_L_law_1049 (h : AH) (L : Nat) (xs : Nat → Int32) (kh23 : AH → Nat → Nat → Nat → Int32 → Option (Int32 × AH)) (a1 : Nat) (a2 : Nat) (a3 : Nat) (x4 : Int32) : Option (Int32 × AH) := gd (inb (x4 + 1) L) (Option.bind (F_X0_fills h a1 (xs (ix (x4 + 1))) a3) fun r740 => gd (inb (x4 + 1) L) (gd (hK r740.2 a2 = 8) (Option.bind (F_X8_fills r740.2 a2 (xs (ix (x4 + 1)))) fun r744 => gd (hK r744.2 a2 = 8) (Option.bind (F_X8_thrown r744.2 a2) fun r747 => if r747 = r740.1 then if r740.1 = 0 then gd (hK r744.2 a3 = 102 ∧ inb 0 (hL r744.2 a3)) (if (lg_cmp (hJ r744.2 a3 (ix 0)) (Int32.toInt64 r744.1)) = 0 then B_L_law_1102 r744.2 L xs kh23 a1 a2 a3 x4 else B_L_law_1100 r744.2 L xs) else B_L_law_1102 r744.2 L xs kh23 a1 a2 a3 x4 else B_L_law_1083 r744.2 L xs))))
def B_L_law_1116 (h : AH) (L : Nat) (xs : Nat → Int32)   : Option (Int32 × AH) := some (0, h)
def B_L_law_1105 (h : AH) (L : Nat) (xs : Nat → Int32) (kh23 : AH → Nat → Nat → Nat → Int32 → Option (Int32 × AH)) (a1 : Nat) (a2 : Nat) (a3 : Nat) (x4 : Int32) : Option (Int32 × AH) := gd (hK h a1 = 1) (Option.bind (F_X1_round h a1) fun r754 => gd (hK h a2 = 8) (Option.bind (F_X8_round h a2) fun r757 => if r754 = r757.1 then B_L_law_2923 r757.2 L xs kh23 a1 a2 a3 x4 else B_L_law_1116 r757.2 L xs))
def B_L_law_1199 (h : AH) (L : Nat) (xs : Nat → Int32) (kh23 : AH → Nat → Nat → Nat → Int32 → Option (Int32 × AH)) (a1 : Nat) (a2 : Nat) (a3 : Nat) (x4 : Int32) : Option (Int32 × AH) := B_L_law_2923 h L xs kh23 a1 a2 a3 x4
def B_L_law_1197 (h : AH) (L : Nat) (xs : Nat → Int32)   : Option (Int32 × AH) := some (0, h)
def B_L_law_1180 (h : AH) (L : Nat) (xs : Nat → Int32)   : Option (Int32 × AH) := some (0, h)
def B_L_law_1166 (h : AH) (L : Nat) (xs : Nat → Int32) (kh23 : AH → Nat → Nat → Nat → Int32 → Option (Int32 × AH)) (a1 : Nat) (a2 : Nat) (a3 : Nat) (x4 : Int32) (x5 : Int32) (t0 : Int32) (t1 : Int32) (t2 : Nat) : Option (Int32 × AH) := gd (hK h t2 = 8) (Option.bind (F_X8_leads h t2 t1 t0) fun r761 => gd (hK r761.2 a2 = 8) (Option.bind (F_X8_thrown r761.2 a2) fun r764 => if r764 = x5 then if x5 = 0 then gd (hK r761.2 a3 = 102 ∧ inb 0 (hL r761.2 a3)) (if (lg_cmp (hJ r761.2 a3 (ix 0)) (Int32.toInt64 r761.1)) = 0 then B_L_law_1199 r761.2 L xs kh23 a1 a2 a3 x4 else B_L_law_1197 r761.2 L xs) else B_L_law_1199 r761.2 L xs kh23 a1 a2 a3 x4 else B_L_law_1180 r761.2 L xs))
def B_L_law_1139 (h : AH) (L : Nat) (xs : Nat → Int32) (kh23 : AH → Nat → Nat → Nat → Int32 → Option (Int32 × AH)) (a1 : Nat) (a2 : Nat) (a3 : Nat) (x4 : Int32) (t0 : Int32) (t1 : Int32) (t2 : Nat) : Option (Int32 × AH) := Option.bind (F_X0_leads h t2 t1 t0 a3) fun r770 => gd (inb (x4 + 1) L) (gd (inb (x4 + 2) L) (if (xs (ix (x4 + 2))) = 0 then B_L_law_1166 r770.2 L xs kh23 a1 a2 a3 x4 r770.1 0 (xs (ix (x4 + 1))) a2 else B_L_law_1166 r770.2 L xs kh23 a1 a2 a3 x4 r770.1 1 (xs (ix (x4 + 1))) a2))
def B_L_law_1118 (h : AH) (L : Nat) (xs : Nat → Int32) (kh23 : AH → Nat → Nat → Nat → Int32 → Option (Int32 × AH)) (a1 : Nat) (a2 : Nat) (a3 : Nat) (x4 : Int32) : Option (Int32 × AH) := gd (inb (x4 + 1) L) (gd (inb (x4 + 2) L) (if (xs (ix (x4 + 2))) = 0 then B_L_law_1139 h L xs kh23 a1 a2 a3 x4 0 (xs (ix (x4 + 1))) a1 else B_L_law_1139 h L xs kh23 a1 a2 a3 x4 1 (xs (ix (x4 + 1))) a1))
def B_L_law_1302 (h : AH) (L : Nat) (xs : Nat → Int32) (kh23 : AH → Nat → Nat → Nat → Int32 → Option (Int32 × AH)) (a1 : Nat) (a2 : Nat) (a3 : Nat) (x4 : Int32) : Option (Int32 × AH) := B_L_law_2923 h L xs kh23 a1 a2 a3 x4
def B_L_law_1300 (h : AH) (L : Nat) (xs : Nat → Int32)   : Option (Int32 × AH) := some (0, h)
def B_L_law_1296 (h : AH) (L : Nat) (xs : Nat → Int32) (kh23 : AH → Nat → Nat → Nat → Int32 → Option (Int32 × AH)) (a1 : Nat) (a2 : Nat) (a3 : Nat) (x4 : Int32) (t0 : Int64) (t1 : Int64) : Option (Int32 × AH) := if (lg_cmp t1 t0) = 0 then B_L_law_1302 h L xs kh23 a1 a2 a3 x4 else B_L_law_1300 h L xs
def B_L_law_1276 (h : AH) (L : Nat) (xs : Nat → Int32)   : Option (Int32 × AH) := some (0, h)
def B_L_law_1262 (h : AH) (L : Nat) (xs : Nat → Int32) (kh23 : AH → Nat → Nat → Nat → Int32 → Option (Int32 × AH)) (a1 : Nat) (a2 : Nat) (a3 : Nat) (x4 : Int32) (x5 : Int32) (t0 : Int32) (t1 : Int32) (t2 : Int32) (t3 : Nat) : Option (Int32 × AH) := gd (hK h t3 = 8) (Option.bind (F_X8_passed h t3 t2 t1 t0) fun r780 => gd (hK r780.2 a2 = 8) (Option.bind (F_X8_thrown r780.2 a2) fun r783 => if r783 = x5 then if x5 = 0 then gd (hK r780.2 a3 = 102 ∧ inb 0 (hL r780.2 a3)) (if r780.1 = 0 then B_L_law_1296 r780.2 L xs kh23 a1 a2 a3 x4 0 (hJ r780.2 a3 (ix 0)) else B_L_law_1296 r780.2 L xs kh23 a1 a2 a3 x4 1 (hJ r780.2 a3 (ix 0))) else B_L_law_1302 r780.2 L xs kh23 a1 a2 a3 x4 else B_L_law_1276 r780.2 L xs))
def B_L_law_1229 (h : AH) (L : Nat) (xs : Nat → Int32) (kh23 : AH → Nat → Nat → Nat → Int32 → Option (Int32 × AH)) (a1 : Nat) (a2 : Nat) (a3 : Nat) (x4 : Int32) (t0 : Int32) (t1 : Int32) (t2 : Int32) (t3 : Nat) : Option (Int32 × AH) := Option.bind (F_X0_passed h t3 t2 t1 t0 a3) fun r789 => gd (inb (x4 + 1) L) (gd (inb (x4 + 2) L) (gd (inb (x4 + 3) L) (if (xs (ix (x4 + 3))) = 0 then B_L_law_1262 r789.2 L xs kh23 a1 a2 a3 x4 r789.1 0 (xs (ix (x4 + 2))) (xs (ix (x4 + 1))) a2 else B_L_law_1262 r789.2 L xs kh23 a1 a2 a3 x4 r789.1 1 (xs (ix (x4 + 2))) (xs (ix (x4 + 1))) a2)))
def B_L_law_1202 (h : AH) (L : Nat) (xs : Nat → Int32) (kh23 : AH → Nat → Nat → Nat → Int32 → Option (Int32 × AH)) (a1 : Nat) (a2 : Nat) (a3 : Nat) (x4 : Int32) : Option (Int32 × AH) := gd (inb (x4 + 1) L) (gd (inb (x4 + 2) L) (gd (inb (x4 + 3) L) (if (xs (ix (x4 + 3))) = 0 then B_L_law_1229 h L xs kh23 a1 a2 a3 x4 0 (xs (ix (x4 + 2))) (xs (ix (x4 + 1))) a1 else B_L_law_1229 h L xs kh23 a1 a2 a3 x4 1 (xs (ix (x4 + 2))) (xs (ix (x4 + 1))) a1)))
def B_L_law_1317 (h : AH) (L : Nat) (xs : Nat → Int32)   : Option (Int32 × AH) := some (0, h)
def B_L_law_1305 (h : AH) (L : Nat) (xs : Nat → Int32) (kh23 : AH → Nat → Nat → Nat → Int32 → Option (Int32 × AH)) (a1 : Nat) (a2 : Nat) (a3 : Nat) (x4 : Int32) : Option (Int32 × AH) := gd (hK h a1 = 1) (Option.bind (F_X1_upper h a1) fun r800 => gd (hK h a2 = 8) (Option.bind (F_X8_upper h a2) fun r803 => if (lg_cmp r800 r803.1) = 0 then B_L_law_2923 r803.2 L xs kh23 a1 a2 a3 x4 else B_L_law_1317 r803.2 L xs))
def B_L_law_1331 (h : AH) (L : Nat) (xs : Nat → Int32)   : Option (Int32 × AH) := some (0, h)
def B_L_law_1319 (h : AH) (L : Nat) (xs : Nat → Int32) (kh23 : AH → Nat → Nat → Nat → Int32 → Option (Int32 × AH)) (a1 : Nat) (a2 : Nat) (a3 : Nat) (x4 : Int32) : Option (Int32 × AH) := gd (hK h a1 = 1) (Option.bind (F_X1_lower h a1) fun r807 => gd (hK h a2 = 8) (Option.bind (F_X8_lower h a2) fun r810 => if (lg_cmp r807 r810.1) = 0 then B_L_law_2923 r810.2 L xs kh23 a1 a2 a3 x4 else B_L_law_1331 r810.2 L xs))
def B_L_law_1386 (h : AH) (L : Nat) (xs : Nat → Int32) (kh23 : AH → Nat → Nat → Nat → Int32 → Option (Int32 × AH)) (a1 : Nat) (a2 : Nat) (a3 : Nat) (x4 : Int32) : Option (Int32 × AH) := B_L_law_2923 h L xs kh23 a1 a2 a3 x4
def B_L_law_1384 (h : AH) (L : Nat) (xs : Nat → Int32)   : Option (Int32 × AH) := some (0, h)
def B_L_law_1367 (h : AH) (L : Nat) (xs : Nat → Int32)   : Option (Int32 × AH) := some (0, h)
def B_L_law_1333 (h : AH) (L : Nat) (xs : Nat → Int32) (kh23 : AH → Nat → Nat → Nat → Int32 → Option (Int32 × AH)) (a1 : Nat) (a2 : Nat) (a3 : Nat) (x4 : Int32) : Option (Int32 × AH) := gd (inb (x4 + 1) L) (Option.bind (F_X0_level h a1 (xs (ix (x4 + 1))) a3) fun r814 => gd (inb (x4 + 1) L) (gd (hK r814.2 a2 = 8) (Option.bind (F_X8_level r814.2 a2 (xs (ix (x4 + 1)))) fun r818 => gd (hK r818.2 a2 = 8) (Option.bind (F_X8_thrown r818.2 a2) fun r821 => if r821 = r814.1 then if r814.1 = 0 then gd (hK r818.2 a3 = 102 ∧ inb 0 (hL r818.2 a3)) (if (lg_cmp (hJ r818.2 a3 (ix 0)) (Int32.toInt64 r818.1)) = 0 then B_L_law_1386 r818.2 L xs kh23 a1 a2 a3 x4 else B_L_law_1384 r818.2 L xs) else B_L_law_1386 r818.2 L xs kh23 a1 a2 a3 x4 else B_L_law_1367 r818.2 L xs))))
def B_L_law_1506 (h : AH) (L : Nat) (xs : Nat → Int32) (kh23 : AH → Nat → Nat → Nat → Int32 → Option (Int32 × AH)) (a1 : Nat) (a2 : Nat) (a3 : Nat) (x4 : Int32) : Option (Int32 × AH) := B_L_law_2923 h L xs kh23 a1 a2 a3 x4
def B_L_law_1504 (h : AH) (L : Nat) (xs : Nat → Int32)   : Option (Int32 × AH) := some (0, h)
def B_L_law_1487 (h : AH) (L : Nat) (xs : Nat → Int32)   : Option (Int32 × AH) := some (0, h)
def B_L_law_1473 (h : AH) (L : Nat) (xs : Nat → Int32) (kh23 : AH → Nat → Nat → Nat → Int32 → Option (Int32 × AH)) (a1 : Nat) (a2 : Nat) (a3 : Nat) (x4 : Int32) (x5 : Int32) (t0 : Int32) (t1 : Int32) (t2 : Int32) (t3 : Int32) (t4 : Int32) (t5 : Nat) : Option (Int32 × AH) := gd (hK h t5 = 8) (Option.bind (F_X8_gain h t5 t4 t3 t2 t1 t0) fun r828 => gd (hK r828.2 a2 = 8) (Option.bind (F_X8_thrown r828.2 a2) fun r831 => if r831 = x5 then if x5 = 0 then gd (hK r828.2 a3 = 102 ∧ inb 0 (hL r828.2 a3)) (if (lg_cmp (hJ r828.2 a3 (ix 0)) (Int32.toInt64 r828.1)) = 0 then B_L_law_1506 r828.2 L xs kh23 a1 a2 a3 x4 else B_L_law_1504 r828.2 L xs) else B_L_law_1506 r828.2 L xs kh23 a1 a2 a3 x4 else B_L_law_1487 r828.2 L xs))
def B_L_law_1428 (h : AH) (L : Nat) (xs : Nat → Int32) (kh23 : AH → Nat → Nat → Nat → Int32 → Option (Int32 × AH)) (a1 : Nat) (a2 : Nat) (a3 : Nat) (x4 : Int32) (t0 : Int32) (t1 : Int32) (t2 : Int32) (t3 : Int32) (t4 : Int32) (t5 : Nat) : Option (Int32 × AH) := Option.bind (F_X0_gain h t5 t4 t3 t2 t1 t0 a3) fun r837 => gd (inb (x4 + 1) L) (gd (inb (x4 + 2) L) (gd (inb (x4 + 3) L) (gd (inb (x4 + 4) L) (gd (inb (x4 + 5) L) (if (xs (ix (x4 + 5))) = 0 then B_L_law_1473 r837.2 L xs kh23 a1 a2 a3 x4 r837.1 0 (xs (ix (x4 + 4))) (xs (ix (x4 + 3))) (xs (ix (x4 + 2))) (xs (ix (x4 + 1))) a2 else B_L_law_1473 r837.2 L xs kh23 a1 a2 a3 x4 r837.1 1 (xs (ix (x4 + 4))) (xs (ix (x4 + 3))) (xs (ix (x4 + 2))) (xs (ix (x4 + 1))) a2)))))
def B_L_law_1389 (h : AH) (L : Nat) (xs : Nat → Int32) (kh23 : AH → Nat → Nat → Nat → Int32 → Option (Int32 × AH)) (a1 : Nat) (a2 : Nat) (a3 : Nat) (x4 : Int32) : Option (Int32 × AH) := gd (inb (x4 + 1) L) (gd (inb (x4 + 2) L) (gd (inb (x4 + 3) L) (gd (inb (x4 + 4) L) (gd (inb (x4 + 5) L) (if (xs (ix (x4 + 5))) = 0 then B_L_law_1428 h L xs kh23 a1 a2 a3 x4 0 (xs (ix (x4 + 4))) (xs (ix (x4 + 3))) (xs (ix (x4 + 2))) (xs (ix (x4 + 1))) a1 else B_L_law_1428 h L xs kh23 a1 a2 a3 x4 1 (xs (ix (x4 + 4))) (xs (ix (x4 + 3))) (xs (ix (x4 + 2))) (xs (ix (x4 + 1))) a1)))))
def B_L_law_1586 (h : AH) (L : Nat) (xs : Nat → Int32) (kh23 : AH → Nat → Nat → Nat → Int32 → Option (Int32 × AH)) (a1 : Nat) (a2 : Nat) (a3 : Nat) (x4 : Int32) : Option (Int32 × AH) := B_L_law_2923 h L xs kh23 a1 a2 a3 x4
def B_L_law_1584 (h : AH) (L : Nat) (xs : Nat → Int32)   : Option (Int32 × AH) := some (0, h)
def B_L_law_1567 (h : AH) (L : Nat) (xs : Nat → Int32)   : Option (Int32 × AH) := some (0, h)
def B_L_law_1509 (h : AH) (L : Nat) (xs : Nat → Int32) (kh23 : AH → Nat → Nat → Nat → Int32 → Option (Int32 × AH)) (a1 : Nat) (a2 : Nat) (a3 : Nat) (x4 : Int32) : Option (Int32 × AH) := gd (inb (x4 + 1) L) (gd (inb (x4 + 2) L) (gd (inb (x4 + 3) L) (Option.bind (F_X0_reply h a1 (xs (ix (x4 + 1))) (xs (ix (x4 + 2))) (xs (ix (x4 + 3))) a3) fun r854 => gd (inb (x4 + 1) L) (gd (inb (x4 + 2) L) (gd (inb (x4 + 3) L) (gd (hK r854.2 a2 = 8) (Option.bind (F_X8_reply r854.2 a2 (xs (ix (x4 + 1))) (xs (ix (x4 + 2))) (xs (ix (x4 + 3)))) fun r860 => gd (hK r860.2 a2 = 8) (Option.bind (F_X8_thrown r860.2 a2) fun r863 => if r863 = r854.1 then if r854.1 = 0 then gd (hK r860.2 a3 = 102 ∧ inb 0 (hL r860.2 a3)) (if (lg_cmp (hJ r860.2 a3 (ix 0)) (Int32.toInt64 r860.1)) = 0 then B_L_law_1586 r860.2 L xs kh23 a1 a2 a3 x4 else B_L_law_1584 r860.2 L xs) else B_L_law_1586 r860.2 L xs kh23 a1 a2 a3 x4 else B_L_law_1567 r860.2 L xs))))))))
def B_L_law_1666 (h : AH) (L : Nat) (xs : Nat → Int32) (kh23 : AH → Nat → Nat → Nat → Int32 → Option (Int32 × AH)) (a1 : Nat) (a2 : Nat) (a3 : Nat) (x4 : Int32) : Option (Int32 × AH) := B_L_law_2923 h L xs kh23 a1 a2 a3 x4
def B_L_law_1664 (h : AH) (L : Nat) (xs : Nat → Int32)   : Option (Int32 × AH) := some (0, h)
def B_L_law_1647 (h : AH) (L : Nat) (xs : Nat → Int32)   : Option (Int32 × AH) := some (0, h)
def B_L_law_1589 (h : AH) (L : Nat) (xs : Nat → Int32) (kh23 : AH → Nat → Nat → Nat → Int32 → Option (Int32 × AH)) (a1 : Nat) (a2 : Nat) (a3 : Nat) (x4 : Int32) : Option (Int32 × AH) := gd (inb (x4 + 1) L) (gd (inb (x4 + 2) L) (gd (inb (x4 + 3) L) (Option.bind (F_X0_even h a1 (xs (ix (x4 + 1))) (xs (ix (x4 + 2))) (xs (ix (x4 + 3))) a3) fun r872 => gd (inb (x4 + 1) L) (gd (inb (x4 + 2) L) (gd (inb (x4 + 3) L) (gd (hK r872.2 a2 = 8) (Option.bind (F_X8_even r872.2 a2 (xs (ix (x4 + 1))) (xs (ix (x4 + 2))) (xs (ix (x4 + 3)))) fun r878 => gd (hK r878.2 a2 = 8) (Option.bind (F_X8_thrown r878.2 a2) fun r881 => if r881 = r872.1 then if r872.1 = 0 then gd (hK r878.2 a3 = 102 ∧ inb 0 (hL r878.2 a3)) (if (lg_cmp (hJ r878.2 a3 (ix 0)) (Int32.toInt64 r878.1)) = 0 then B_L_law_1666 r878.2 L xs kh23 a1 a2 a3 x4 else B_L_law_1664 r878.2 L xs) else B_L_law_1666 r878.2 L xs kh23 a1 a2 a3 x4 else B_L_law_1647 r878.2 L xs))))))))
def B_L_law_1734 (h : AH) (L : Nat) (xs : Nat → Int32) (kh23 : AH → Nat → Nat → Nat → Int32 → Option (Int32 × AH)) (a1 : Nat) (a2 : Nat) (a3 : Nat) (x4 : Int32) : Option (Int32 × AH) := B_L_law_2923 h L xs kh23 a1 a2 a3 x4
def B_L_law_1732 (h : AH) (L : Nat) (xs : Nat → Int32)   : Option (Int32 × AH) := some (0, h)
def B_L_law_1715 (h : AH) (L : Nat) (xs : Nat → Int32)   : Option (Int32 × AH) := some (0, h)
def B_L_law_1669 (h : AH) (L : Nat) (xs : Nat → Int32) (kh23 : AH → Nat → Nat → Nat → Int32 → Option (Int32 × AH)) (a1 : Nat) (a2 : Nat) (a3 : Nat) (x4 : Int32) : Option (Int32 × AH) := gd (inb (x4 + 1) L) (gd (inb (x4 + 2) L) (Option.bind (F_X0_joint h a1 (xs (ix (x4 + 1))) (xs (ix (x4 + 2))) a3) fun r889 => gd (inb (x4 + 1) L) (gd (inb (x4 + 2) L) (gd (hK r889.2 a2 = 8) (Option.bind (F_X8_joint r889.2 a2 (xs (ix (x4 + 1))) (xs (ix (x4 + 2)))) fun r894 => gd (hK r894.2 a2 = 8) (Option.bind (F_X8_thrown r894.2 a2) fun r897 => if r897 = r889.1 then if r889.1 = 0 then gd (hK r894.2 a3 = 102 ∧ inb 0 (hL r894.2 a3)) (if (lg_cmp (hJ r894.2 a3 (ix 0)) (Int32.toInt64 r894.1)) = 0 then B_L_law_1734 r894.2 L xs kh23 a1 a2 a3 x4 else B_L_law_1732 r894.2 L xs) else B_L_law_1734 r894.2 L xs kh23 a1 a2 a3 x4 else B_L_law_1715 r894.2 L xs))))))
def B_L_law_1838 (h : AH) (L : Nat) (xs : Nat → Int32) (kh23 : AH → Nat → Nat → Nat → Int32 → Option (Int32 × AH)) (a1 : Nat) (a2 : Nat) (a3 : Nat) (x4 : Int32) : Option (Int32 × AH) := B_L_law_2923 h L xs kh23 a1 a2 a3 x4
def B_L_law_1836 (h : AH) (L : Nat) (xs : Nat → Int32)   : Option (Int32 × AH) := some (0, h)
def B_L_law_1819 (h : AH) (L : Nat) (xs : Nat → Int32)   : Option (Int32 × AH) := some (0, h)
def B_L_law_1737 (h : AH) (L : Nat) (xs : Nat → Int32) (kh23 : AH → Nat → Nat → Nat → Int32 → Option (Int32 × AH)) (a1 : Nat) (a2 : Nat) (a3 : Nat) (x4 : Int32) : Option (Int32 × AH) := gd (inb (x4 + 1) L) (gd (inb (x4 + 2) L) (gd (inb (x4 + 3) L) (gd (inb (x4 + 4) L) (gd (inb (x4 + 5) L) (Option.bind (F_X0_turn h a1 (xs (ix (x4 + 1))) (xs (ix (x4 + 2))) (xs (ix (x4 + 3))) (xs (ix (x4 + 4))) (xs (ix (x4 + 5))) a3) fun r908 => gd (inb (x4 + 1) L) (gd (inb (x4 + 2) L) (gd (inb (x4 + 3) L) (gd (inb (x4 + 4) L) (gd (inb (x4 + 5) L) (gd (hK r908.2 a2 = 8) (Option.bind (F_X8_turn r908.2 a2 (xs (ix (x4 + 1))) (xs (ix (x4 + 2))) (xs (ix (x4 + 3))) (xs (ix (x4 + 4))) (xs (ix (x4 + 5)))) fun r916 => gd (hK r916.2 a2 = 8) (Option.bind (F_X8_thrown r916.2 a2) fun r919 => if r919 = r908.1 then if r908.1 = 0 then gd (hK r916.2 a3 = 102 ∧ inb 0 (hL r916.2 a3)) (if (lg_cmp (hJ r916.2 a3 (ix 0)) (Int32.toInt64 r916.1)) = 0 then B_L_law_1838 r916.2 L xs kh23 a1 a2 a3 x4 else B_L_law_1836 r916.2 L xs) else B_L_law_1838 r916.2 L xs kh23 a1 a2 a3 x4 else B_L_law_1819 r916.2 L xs))))))))))))
def B_L_law_1957 (h : AH) (L : Nat) (xs : Nat → Int32) (kh23 : AH → Nat → Nat → Nat → Int32 → Option (Int32 × AH)) (a1 : Nat) (a2 : Nat) (a3 : Nat) (x4 : Int32) : Option (Int32 × AH) := B_L_law_2923 h L xs kh23 a1 a2 a3 x4
def B_L_law_1955 (h : AH) (L : Nat) (xs : Nat → Int32)   : Option (Int32 × AH) := some (0, h)
def B_L_law_1939 (h : AH) (L : Nat) (xs : Nat → Int32)   : Option (Int32 × AH) := some (0, h)
def B_L_law_1925 (h : AH) (L : Nat) (xs : Nat → Int32) (kh23 : AH → Nat → Nat → Nat → Int32 → Option (Int32 × AH)) (a1 : Nat) (a2 : Nat) (a3 : Nat) (x4 : Int32) (x5 : Int32) (t0 : Int32) (t1 : Int32) (t2 : Int32) (t3 : Int32) (t4 : Int32) (t5 : Nat) : Option (Int32 × AH) := gd (hK h t5 = 8) (Option.bind (F_X8_gains h t5 t4 t3 t2 t1 t0) fun r926 => gd (hK r926.2 a2 = 8) (Option.bind (F_X8_thrown r926.2 a2) fun r929 => if r929 = x5 then if x5 = 0 then gd (hK r926.2 a3 = 102 ∧ inb 0 (hL r926.2 a3)) (if (lg_cmp (hJ r926.2 a3 (ix 0)) r926.1) = 0 then B_L_law_1957 r926.2 L xs kh23 a1 a2 a3 x4 else B_L_law_1955 r926.2 L xs) else B_L_law_1957 r926.2 L xs kh23 a1 a2 a3 x4 else B_L_law_1939 r926.2 L xs))
def B_L_law_1880 (h : AH) (L : Nat) (xs : Nat → Int32) (kh23 : AH → Nat → Nat → Nat → Int32 → Option (Int32 × AH)) (a1 : Nat) (a2 : Nat) (a3 : Nat) (x4 : Int32) (t0 : Int32) (t1 : Int32) (t2 : Int32) (t3 : Int32) (t4 : Int32) (t5 : Nat) : Option (Int32 × AH) := Option.bind (F_X0_gains h t5 t4 t3 t2 t1 t0 a3) fun r935 => gd (inb (x4 + 1) L) (gd (inb (x4 + 2) L) (gd (inb (x4 + 3) L) (gd (inb (x4 + 4) L) (gd (inb (x4 + 5) L) (if (xs (ix (x4 + 5))) = 0 then B_L_law_1925 r935.2 L xs kh23 a1 a2 a3 x4 r935.1 0 (xs (ix (x4 + 4))) (xs (ix (x4 + 3))) (xs (ix (x4 + 2))) (xs (ix (x4 + 1))) a2 else B_L_law_1925 r935.2 L xs kh23 a1 a2 a3 x4 r935.1 1 (xs (ix (x4 + 4))) (xs (ix (x4 + 3))) (xs (ix (x4 + 2))) (xs (ix (x4 + 1))) a2)))))
def B_L_law_1841 (h : AH) (L : Nat) (xs : Nat → Int32) (kh23 : AH → Nat → Nat → Nat → Int32 → Option (Int32 × AH)) (a1 : Nat) (a2 : Nat) (a3 : Nat) (x4 : Int32) : Option (Int32 × AH) := gd (inb (x4 + 1) L) (gd (inb (x4 + 2) L) (gd (inb (x4 + 3) L) (gd (inb (x4 + 4) L) (gd (inb (x4 + 5) L) (if (xs (ix (x4 + 5))) = 0 then B_L_law_1880 h L xs kh23 a1 a2 a3 x4 0 (xs (ix (x4 + 4))) (xs (ix (x4 + 3))) (xs (ix (x4 + 2))) (xs (ix (x4 + 1))) a1 else B_L_law_1880 h L xs kh23 a1 a2 a3 x4 1 (xs (ix (x4 + 4))) (xs (ix (x4 + 3))) (xs (ix (x4 + 2))) (xs (ix (x4 + 1))) a1)))))
def B_L_law_2049 (h : AH) (L : Nat) (xs : Nat → Int32) (kh23 : AH → Nat → Nat → Nat → Int32 → Option (Int32 × AH)) (a1 : Nat) (a2 : Nat) (a3 : Nat) (x4 : Int32) : Option (Int32 × AH) := B_L_law_2923 h L xs kh23 a1 a2 a3 x4
def B_L_law_2047 (h : AH) (L : Nat) (xs : Nat → Int32)   : Option (Int32 × AH) := some (0, h)
def B_L_law_2030 (h : AH) (L : Nat) (xs : Nat → Int32)   : Option (Int32 × AH) := some (0, h)
def B_L_law_1960 (h : AH) (L : Nat) (xs : Nat → Int32) (kh23 : AH → Nat → Nat → Nat → Int32 → Option (Int32 × AH)) (a1 : Nat) (a2 : Nat) (a3 : Nat) (x4 : Int32) : Option (Int32 × AH) := gd (inb (x4 + 1) L) (gd (inb (x4 + 2) L) (gd (inb (x4 + 3) L) (gd (inb (x4 + 4) L) (Option.bind (F_X0_learn h a1 (xs (ix (x4 + 1))) (xs (ix (x4 + 2))) (xs (ix (x4 + 3))) (xs (ix (x4 + 4))) a3) fun r953 => gd (inb (x4 + 1) L) (gd (inb (x4 + 2) L) (gd (inb (x4 + 3) L) (gd (inb (x4 + 4) L) (gd (hK r953.2 a2 = 8) (Option.bind (F_X8_learn r953.2 a2 (xs (ix (x4 + 1))) (xs (ix (x4 + 2))) (xs (ix (x4 + 3))) (xs (ix (x4 + 4)))) fun r960 => gd (hK r960.2 a2 = 8) (Option.bind (F_X8_thrown r960.2 a2) fun r963 => if r963 = r953.1 then if r953.1 = 0 then gd (hK r960.2 a3 = 102 ∧ inb 0 (hL r960.2 a3)) (if (lg_cmp (hJ r960.2 a3 (ix 0)) (Int32.toInt64 r960.1)) = 0 then B_L_law_2049 r960.2 L xs kh23 a1 a2 a3 x4 else B_L_law_2047 r960.2 L xs) else B_L_law_2049 r960.2 L xs kh23 a1 a2 a3 x4 else B_L_law_2030 r960.2 L xs))))))))))
def B_L_law_2141 (h : AH) (L : Nat) (xs : Nat → Int32) (kh23 : AH → Nat → Nat → Nat → Int32 → Option (Int32 × AH)) (a1 : Nat) (a2 : Nat) (a3 : Nat) (x4 : Int32) : Option (Int32 × AH) := B_L_law_2923 h L xs kh23 a1 a2 a3 x4
def B_L_law_2139 (h : AH) (L : Nat) (xs : Nat → Int32)   : Option (Int32 × AH) := some (0, h)
def B_L_law_2122 (h : AH) (L : Nat) (xs : Nat → Int32)   : Option (Int32 × AH) := some (0, h)
def B_L_law_2052 (h : AH) (L : Nat) (xs : Nat → Int32) (kh23 : AH → Nat → Nat → Nat → Int32 → Option (Int32 × AH)) (a1 : Nat) (a2 : Nat) (a3 : Nat) (x4 : Int32) : Option (Int32 × AH) := gd (inb (x4 + 1) L) (gd (inb (x4 + 2) L) (gd (inb (x4 + 3) L) (gd (inb (x4 + 4) L) (Option.bind (F_X0_above h a1 (xs (ix (x4 + 1))) (xs (ix (x4 + 2))) (xs (ix (x4 + 3))) (xs (ix (x4 + 4))) a3) fun r973 => gd (inb (x4 + 1) L) (gd (inb (x4 + 2) L) (gd (inb (x4 + 3) L) (gd (inb (x4 + 4) L) (gd (hK r973.2 a2 = 8) (Option.bind (F_X8_above r973.2 a2 (xs (ix (x4 + 1))) (xs (ix (x4 + 2))) (xs (ix (x4 + 3))) (xs (ix (x4 + 4)))) fun r980 => gd (hK r980.2 a2 = 8) (Option.bind (F_X8_thrown r980.2 a2) fun r983 => if r983 = r973.1 then if r973.1 = 0 then gd (hK r980.2 a3 = 102 ∧ inb 0 (hL r980.2 a3)) (if (lg_cmp (hJ r980.2 a3 (ix 0)) (Int32.toInt64 r980.1)) = 0 then B_L_law_2141 r980.2 L xs kh23 a1 a2 a3 x4 else B_L_law_2139 r980.2 L xs) else B_L_law_2141 r980.2 L xs kh23 a1 a2 a3 x4 else B_L_law_2122 r980.2 L xs))))))))))
def B_L_law_2245 (h : AH) (L : Nat) (xs : Nat → Int32) (kh23 : AH → Nat → Nat → Nat → Int32 → Option (Int32 × AH)) (a1 : Nat) (a2 : Nat) (a3 : Nat) (x4 : Int32) : Option (Int32 × AH) := B_L_law_2923 h L xs kh23 a1 a2 a3 x4
def B_L_law_2243 (h : AH) (L : Nat) (xs : Nat → Int32)   : Option (Int32 × AH) := some (0, h)
def B_L_law_2226 (h : AH) (L : Nat) (xs : Nat → Int32)   : Option (Int32 × AH) := some (0, h)
def B_L_law_2144 (h : AH) (L : Nat) (xs : Nat → Int32) (kh23 : AH → Nat → Nat → Nat → Int32 → Option (Int32 × AH)) (a1 : Nat) (a2 : Nat) (a3 : Nat) (x4 : Int32) : Option (Int32 × AH) := gd (inb (x4 + 1) L) (gd (inb (x4 + 2) L) (gd (inb (x4 + 3) L) (gd (inb (x4 + 4) L) (gd (inb (x4 + 5) L) (Option.bind (F_X0_punish h a1 (xs (ix (x4 + 1))) (xs (ix (x4 + 2))) (xs (ix (x4 + 3))) (xs (ix (x4 + 4))) (xs (ix (x4 + 5))) a3) fun r994 => gd (inb (x4 + 1) L) (gd (inb (x4 + 2) L) (gd (inb (x4 + 3) L) (gd (inb (x4 + 4) L) (gd (inb (x4 + 5) L) (gd (hK r994.2 a2 = 8) (Option.bind (F_X8_punish r994.2 a2 (xs (ix (x4 + 1))) (xs (ix (x4 + 2))) (xs (ix (x4 + 3))) (xs (ix (x4 + 4))) (xs (ix (x4 + 5)))) fun r1002 => gd (hK r1002.2 a2 = 8) (Option.bind (F_X8_thrown r1002.2 a2) fun r1005 => if r1005 = r994.1 then if r994.1 = 0 then gd (hK r1002.2 a3 = 102 ∧ inb 0 (hL r1002.2 a3)) (if (lg_cmp (hJ r1002.2 a3 (ix 0)) (Int32.toInt64 r1002.1)) = 0 then B_L_law_2245 r1002.2 L xs kh23 a1 a2 a3 x4 else B_L_law_2243 r1002.2 L xs) else B_L_law_2245 r1002.2 L xs kh23 a1 a2 a3 x4 else B_L_law_2226 r1002.2 L xs))))))))))))
def B_L_law_2320 (h : AH) (L : Nat) (xs : Nat → Int32) (kh23 : AH → Nat → Nat → Nat → Int32 → Option (Int32 × AH)) (a1 : Nat) (a2 : Nat) (a3 : Nat) (x4 : Int32) : Option (Int32 × AH) := B_L_law_2923 h L xs kh23 a1 a2 a3 x4
def B_L_law_2318 (h : AH) (L : Nat) (xs : Nat → Int32)   : Option (Int32 × AH) := some (0, h)
def B_L_law_2314 (h : AH) (L : Nat) (xs : Nat → Int32) (kh23 : AH → Nat → Nat → Nat → Int32 → Option (Int32 × AH)) (a1 : Nat) (a2 : Nat) (a3 : Nat) (x4 : Int32) (t0 : Int64) (t1 : Int64) : Option (Int32 × AH) := if (lg_cmp t1 t0) = 0 then B_L_law_2320 h L xs kh23 a1 a2 a3 x4 else B_L_law_2318 h L xs
def B_L_law_2294 (h : AH) (L : Nat) (xs : Nat → Int32)   : Option (Int32 × AH) := some (0, h)
def B_L_law_2248 (h : AH) (L : Nat) (xs : Nat → Int32) (kh23 : AH → Nat → Nat → Nat → Int32 → Option (Int32 × AH)) (a1 : Nat) (a2 : Nat) (a3 : Nat) (x4 : Int32) : Option (Int32 × AH) := gd (inb (x4 + 1) L) (gd (inb (x4 + 2) L) (Option.bind (F_X0_story h a1 (xs (ix (x4 + 1))) (xs (ix (x4 + 2))) a3) fun r1014 => gd (inb (x4 + 1) L) (gd (inb (x4 + 2) L) (gd (hK r1014.2 a2 = 8) (Option.bind (F_X8_story r1014.2 a2 (xs (ix (x4 + 1))) (xs (ix (x4 + 2)))) fun r1019 => gd (hK r1019.2 a2 = 8) (Option.bind (F_X8_thrown r1019.2 a2) fun r1022 => if r1022 = r1014.1 then if r1014.1 = 0 then gd (hK r1019.2 a3 = 102 ∧ inb 0 (hL r1019.2 a3)) (if r1019.1 = 0 then B_L_law_2314 r1019.2 L xs kh23 a1 a2 a3 x4 0 (hJ r1019.2 a3 (ix 0)) else B_L_law_2314 r1019.2 L xs kh23 a1 a2 a3 x4 1 (hJ r1019.2 a3 (ix 0))) else B_L_law_2320 r1019.2 L xs kh23 a1 a2 a3 x4 else B_L_law_2294 r1019.2 L xs))))))
def B_L_law_2400 (h : AH) (L : Nat) (xs : Nat → Int32) (kh23 : AH → Nat → Nat → Nat → Int32 → Option (Int32 × AH)) (a1 : Nat) (a2 : Nat) (a3 : Nat) (x4 : Int32) : Option (Int32 × AH) := B_L_law_2923 h L xs kh23 a1 a2 a3 x4
def B_L_law_2398 (h : AH) (L : Nat) (xs : Nat → Int32)   : Option (Int32 × AH) := some (0, h)
def B_L_law_2381 (h : AH) (L : Nat) (xs : Nat → Int32)   : Option (Int32 × AH) := some (0, h)
def B_L_law_2323 (h : AH) (L : Nat) (xs : Nat → Int32) (kh23 : AH → Nat → Nat → Nat → Int32 → Option (Int32 × AH)) (a1 : Nat) (a2 : Nat) (a3 : Nat) (x4 : Int32) : Option (Int32 × AH) := gd (inb (x4 + 1) L) (gd (inb (x4 + 2) L) (gd (inb (x4 + 3) L) (Option.bind (F_X0_rise h a1 (xs (ix (x4 + 1))) (xs (ix (x4 + 2))) (xs (ix (x4 + 3))) a3) fun r1031 => gd (inb (x4 + 1) L) (gd (inb (x4 + 2) L) (gd (inb (x4 + 3) L) (gd (hK r1031.2 a2 = 8) (Option.bind (F_X8_rise r1031.2 a2 (xs (ix (x4 + 1))) (xs (ix (x4 + 2))) (xs (ix (x4 + 3)))) fun r1037 => gd (hK r1037.2 a2 = 8) (Option.bind (F_X8_thrown r1037.2 a2) fun r1040 => if r1040 = r1031.1 then if r1031.1 = 0 then gd (hK r1037.2 a3 = 102 ∧ inb 0 (hL r1037.2 a3)) (if (lg_cmp (hJ r1037.2 a3 (ix 0)) (Int32.toInt64 r1037.1)) = 0 then B_L_law_2400 r1037.2 L xs kh23 a1 a2 a3 x4 else B_L_law_2398 r1037.2 L xs) else B_L_law_2400 r1037.2 L xs kh23 a1 a2 a3 x4 else B_L_law_2381 r1037.2 L xs))))))))
def B_L_law_2403 (h : AH) (L : Nat) (xs : Nat → Int32) (kh23 : AH → Nat → Nat → Nat → Int32 → Option (Int32 × AH)) (a1 : Nat) (a2 : Nat) (a3 : Nat) (x4 : Int32) : Option (Int32 × AH) := gd (hK h a1 = 1) (Option.bind (F_X1_odds h a1) fun r1047 => gd (hK r1047 a2 = 8) (Option.bind (F_X8_odds r1047 a2) fun r1050 => B_L_law_2923 r1050 L xs kh23 a1 a2 a3 x4))
def B_L_law_2503 (h : AH) (L : Nat) (xs : Nat → Int32) (kh23 : AH → Nat → Nat → Nat → Int32 → Option (Int32 × AH)) (a1 : Nat) (a2 : Nat) (a3 : Nat) (x4 : Int32) : Option (Int32 × AH) := B_L_law_2923 h L xs kh23 a1 a2 a3 x4
def B_L_law_2501 (h : AH) (L : Nat) (xs : Nat → Int32)   : Option (Int32 × AH) := some (0, h)
def B_L_law_2484 (h : AH) (L : Nat) (xs : Nat → Int32)   : Option (Int32 × AH) := some (0, h)
def B_L_law_2414 (h : AH) (L : Nat) (xs : Nat → Int32) (kh23 : AH → Nat → Nat → Nat → Int32 → Option (Int32 × AH)) (a1 : Nat) (a2 : Nat) (a3 : Nat) (x4 : Int32) : Option (Int32 × AH) := gd (inb (x4 + 1) L) (gd (inb (x4 + 2) L) (gd (inb (x4 + 3) L) (gd (inb (x4 + 4) L) (Option.bind (F_X0_fill h a1 (xs (ix (x4 + 1))) (xs (ix (x4 + 2))) (xs (ix (x4 + 3))) (xs (ix (x4 + 4))) a3) fun r1056 => gd (inb (x4 + 1) L) (gd (inb (x4 + 2) L) (gd (inb (x4 + 3) L) (gd (inb (x4 + 4) L) (gd (hK r1056.2 a2 = 8) (Option.bind (F_X8_fill r1056.2 a2 (xs (ix (x4 + 1))) (xs (ix (x4 + 2))) (xs (ix (x4 + 3))) (xs (ix (x4 + 4)))) fun r1063 => gd (hK r1063.2 a2 = 8) (Option.bind (F_X8_thrown r1063.2 a2) fun r1066 => if r1066 = r1056.1 then if r1056.1 = 0 then gd (hK r1063.2 a3 = 102 ∧ inb 0 (hL r1063.2 a3)) (if (lg_cmp (hJ r1063.2 a3 (ix 0)) (Int32.toInt64 r1063.1)) = 0 then B_L_law_2503 r1063.2 L xs kh23 a1 a2 a3 x4 else B_L_law_2501 r1063.2 L xs) else B_L_law_2503 r1063.2 L xs kh23 a1 a2 a3 x4 else B_L_law_2484 r1063.2 L xs))))))))))
def B_L_law_2595 (h : AH) (L : Nat) (xs : Nat → Int32) (kh23 : AH → Nat → Nat → Nat → Int32 → Option (Int32 × AH)) (a1 : Nat) (a2 : Nat) (a3 : Nat) (x4 : Int32) : Option (Int32 × AH) := B_L_law_2923 h L xs kh23 a1 a2 a3 x4
def B_L_law_2593 (h : AH) (L : Nat) (xs : Nat → Int32)   : Option (Int32 × AH) := some (0, h)
def B_L_law_2576 (h : AH) (L : Nat) (xs : Nat → Int32)   : Option (Int32 × AH) := some (0, h)
def B_L_law_2506 (h : AH) (L : Nat) (xs : Nat → Int32) (kh23 : AH → Nat → Nat → Nat → Int32 → Option (Int32 × AH)) (a1 : Nat) (a2 : Nat) (a3 : Nat) (x4 : Int32) : Option (Int32 × AH) := gd (inb (x4 + 1) L) (gd (inb (x4 + 2) L) (gd (inb (x4 + 3) L) (gd (inb (x4 + 4) L) (Option.bind (F_X0_told h a1 (xs (ix (x4 + 1))) (xs (ix (x4 + 2))) (xs (ix (x4 + 3))) (xs (ix (x4 + 4))) a3) fun r1076 => gd (inb (x4 + 1) L) (gd (inb (x4 + 2) L) (gd (inb (x4 + 3) L) (gd (inb (x4 + 4) L) (gd (hK r1076.2 a2 = 8) (Option.bind (F_X8_told r1076.2 a2 (xs (ix (x4 + 1))) (xs (ix (x4 + 2))) (xs (ix (x4 + 3))) (xs (ix (x4 + 4)))) fun r1083 => gd (hK r1083.2 a2 = 8) (Option.bind (F_X8_thrown r1083.2 a2) fun r1086 => if r1086 = r1076.1 then if r1076.1 = 0 then gd (hK r1083.2 a3 = 102 ∧ inb 0 (hL r1083.2 a3)) (if (lg_cmp (hJ r1083.2 a3 (ix 0)) (Int32.toInt64 r1083.1)) = 0 then B_L_law_2595 r1083.2 L xs kh23 a1 a2 a3 x4 else B_L_law_2593 r1083.2 L xs) else B_L_law_2595 r1083.2 L xs kh23 a1 a2 a3 x4 else B_L_law_2576 r1083.2 L xs))))))))))
def B_L_law_2651 (h : AH) (L : Nat) (xs : Nat → Int32) (kh23 : AH → Nat → Nat → Nat → Int32 → Option (Int32 × AH)) (a1 : Nat) (a2 : Nat) (a3 : Nat) (x4 : Int32) : Option (Int32 × AH) := B_L_law_2923 h L xs kh23 a1 a2 a3 x4
def B_L_law_2649 (h : AH) (L : Nat) (xs : Nat → Int32)   : Option (Int32 × AH) := some (0, h)
def B_L_law_2632 (h : AH) (L : Nat) (xs : Nat → Int32)   : Option (Int32 × AH) := some (0, h)
def B_L_law_2598 (h : AH) (L : Nat) (xs : Nat → Int32) (kh23 : AH → Nat → Nat → Nat → Int32 → Option (Int32 × AH)) (a1 : Nat) (a2 : Nat) (a3 : Nat) (x4 : Int32) : Option (Int32 × AH) := gd (inb (x4 + 1) L) (Option.bind (F_X0_fit h a1 (xs (ix (x4 + 1))) a3) fun r1093 => gd (inb (x4 + 1) L) (gd (hK r1093.2 a2 = 8) (Option.bind (F_X8_fit r1093.2 a2 (xs (ix (x4 + 1)))) fun r1097 => gd (hK r1097.2 a2 = 8) (Option.bind (F_X8_thrown r1097.2 a2) fun r1100 => if r1100 = r1093.1 then if r1093.1 = 0 then gd (hK r1097.2 a3 = 102 ∧ inb 0 (hL r1097.2 a3)) (if (lg_cmp (hJ r1097.2 a3 (ix 0)) (Int32.toInt64 r1097.1)) = 0 then B_L_law_2651 r1097.2 L xs kh23 a1 a2 a3 x4 else B_L_law_2649 r1097.2 L xs) else B_L_law_2651 r1097.2 L xs kh23 a1 a2 a3 x4 else B_L_law_2632 r1097.2 L xs))))
def B_L_law_2709 (h : AH) (L : Nat) (xs : Nat → Int32)   : Option (Int32 × AH) := some (0, h)
def B_L_law_2654 (h : AH) (L : Nat) (xs : Nat → Int32) (kh23 : AH → Nat → Nat → Nat → Int32 → Option (Int32 × AH)) (a1 : Nat) (a2 : Nat) (a3 : Nat) (x4 : Int32) : Option (Int32 × AH) := gd (inb (x4 + 1) L) (gd (inb (x4 + 2) L) (gd (inb (x4 + 3) L) (Option.bind (F_X0_tray h a1 (xs (ix (x4 + 1))) (xs (ix (x4 + 2))) (xs (ix (x4 + 3)))) fun r1109 => gd (inb (x4 + 1) L) (gd (inb (x4 + 2) L) (gd (inb (x4 + 3) L) (gd (hK r1109.2 a2 = 8) (Option.bind (F_X8_tray r1109.2 a2 (xs (ix (x4 + 1))) (xs (ix (x4 + 2))) (xs (ix (x4 + 3)))) fun r1115 => gd (hK r1115 a2 = 8) (Option.bind (F_X8_thrown r1115 a2) fun r1118 => if r1118 = r1109.1 then B_L_law_2923 r1115 L xs kh23 a1 a2 a3 x4 else B_L_law_2709 r1115 L xs))))))))
def B_L_law_2822 (h : AH) (L : Nat) (xs : Nat → Int32) (kh23 : AH → Nat → Nat → Nat → Int32 → Option (Int32 × AH)) (a1 : Nat) (a2 : Nat) (a3 : Nat) (x4 : Int32) : Option (Int32 × AH) := B_L_law_2923 h L xs kh23 a1 a2 a3 x4
def B_L_law_2820 (h : AH) (L : Nat) (xs : Nat → Int32)   : Option (Int32 × AH) := some (0, h)
def B_L_law_2804 (h : AH) (L : Nat) (xs : Nat → Int32)   : Option (Int32 × AH) := some (0, h)
def B_L_law_2714 (h : AH) (L : Nat) (xs : Nat → Int32) (kh23 : AH → Nat → Nat → Nat → Int32 → Option (Int32 × AH)) (a1 : Nat) (a2 : Nat) (a3 : Nat) (x4 : Int32) : Option (Int32 × AH) := gd (inb (x4 + 1) L) (gd (inb (x4 + 2) L) (gd (inb (x4 + 3) L) (gd (inb (x4 + 4) L) (Option.bind (F_X0_write h a1 (xs (ix (x4 + 1))) (xs (ix (x4 + 2))) ((lshl (Int32.toInt64 (xs (ix (x4 + 3)))) 32) ||| ((Int32.toInt64 (xs (ix (x4 + 4)))) &&& 4294967295)) a3) fun r1125 => gd (inb (x4 + 1) L) (gd (inb (x4 + 2) L) (gd (inb (x4 + 3) L) (gd (inb (x4 + 4) L) (gd (hK r1125.2 a2 = 8) (Option.bind (F_X8_write r1125.2 a2 (xs (ix (x4 + 1))) (xs (ix (x4 + 2))) ((lshl (Int32.toInt64 (xs (ix (x4 + 3)))) 32) ||| ((Int32.toInt64 (xs (ix (x4 + 4)))) &&& 4294967295))) fun r1132 => gd (hK r1132.2 a2 = 8) (Option.bind (F_X8_thrown r1132.2 a2) fun r1135 => if r1135 = r1125.1 then if r1125.1 = 0 then gd (hK r1132.2 a3 = 102 ∧ inb 0 (hL r1132.2 a3)) (if (lg_cmp (hJ r1132.2 a3 (ix 0)) r1132.1) = 0 then B_L_law_2822 r1132.2 L xs kh23 a1 a2 a3 x4 else B_L_law_2820 r1132.2 L xs) else B_L_law_2822 r1132.2 L xs kh23 a1 a2 a3 x4 else B_L_law_2804 r1132.2 L xs))))))))))
def B_L_law_2856 (h : AH) (L : Nat) (xs : Nat → Int32)   : Option (Int32 × AH) := some (0, h)
def B_L_law_2825 (h : AH) (L : Nat) (xs : Nat → Int32) (kh23 : AH → Nat → Nat → Nat → Int32 → Option (Int32 × AH)) (a1 : Nat) (a2 : Nat) (a3 : Nat) (x4 : Int32) : Option (Int32 × AH) := gd (inb (x4 + 1) L) (Option.bind (F_X0_image h a1 (xs (ix (x4 + 1)))) fun r1142 => gd (inb (x4 + 1) L) (gd (hK r1142.2 a2 = 8) (Option.bind (F_X8_image r1142.2 a2 (xs (ix (x4 + 1)))) fun r1146 => gd (hK r1146 a2 = 8) (Option.bind (F_X8_thrown r1146 a2) fun r1149 => if r1149 = r1142.1 then B_L_law_2923 r1146 L xs kh23 a1 a2 a3 x4 else B_L_law_2856 r1146 L xs))))
def B_L_law_2892 (h : AH) (L : Nat) (xs : Nat → Int32)   : Option (Int32 × AH) := some (0, h)
def B_L_law_2861 (h : AH) (L : Nat) (xs : Nat → Int32) (kh23 : AH → Nat → Nat → Nat → Int32 → Option (Int32 × AH)) (a1 : Nat) (a2 : Nat) (a3 : Nat) (x4 : Int32) : Option (Int32 × AH) := gd (inb (x4 + 1) L) (Option.bind (F_X0_restore h a1 (xs (ix (x4 + 1)))) fun r1153 => gd (inb (x4 + 1) L) (gd (hK r1153.2 a2 = 8) (Option.bind (F_X8_restore r1153.2 a2 (xs (ix (x4 + 1)))) fun r1157 => gd (hK r1157 a2 = 8) (Option.bind (F_X8_thrown r1157 a2) fun r1160 => if r1160 = r1153.1 then B_L_law_2923 r1157 L xs kh23 a1 a2 a3 x4 else B_L_law_2892 r1157 L xs))))
def B_L_law_2921 (h : AH) (L : Nat) (xs : Nat → Int32)   : Option (Int32 × AH) := some (0, h)
def B_L_law_2897 (h : AH) (L : Nat) (xs : Nat → Int32) (kh23 : AH → Nat → Nat → Nat → Int32 → Option (Int32 × AH)) (a1 : Nat) (a2 : Nat) (a3 : Nat) (x4 : Int32) : Option (Int32 × AH) := gd (inb (x4 + 1) L) (gd (hK h a1 = 1) (Option.bind (F_X1_count h a1 (xs (ix (x4 + 1)))) fun r1165 => gd (inb (x4 + 1) L) (gd (hK h a2 = 8) (Option.bind (F_X8_count h a2 (xs (ix (x4 + 1)))) fun r1169 => if (lg_cmp r1165 r1169.1) = 0 then B_L_law_2923 r1169.2 L xs kh23 a1 a2 a3 x4 else B_L_law_2921 r1169.2 L xs))))
def B_L_law_23 (h : AH) (L : Nat) (xs : Nat → Int32) (kh23 : AH → Nat → Nat → Nat → Int32 → Option (Int32 × AH)) (a1 : Nat) (a2 : Nat) (a3 : Nat) (x4 : Int32) : Option (Int32 × AH) := if ((Int32.ofNat L) - 6) < x4 then B_L_law_2929 h L xs else gd (inb x4 L) (if ((xs (ix x4)) &&& 63) = 0 then B_L_law_216 h L xs kh23 a1 a2 a3 x4 else if ((xs (ix x4)) &&& 63) = 1 then B_L_law_296 h L xs kh23 a1 a2 a3 x4 else if ((xs (ix x4)) &&& 63) = 2 then B_L_law_388 h L xs kh23 a1 a2 a3 x4 else if ((xs (ix x4)) &&& 63) = 3 then B_L_law_456 h L xs kh23 a1 a2 a3 x4 else if ((xs (ix x4)) &&& 63) = 4 then B_L_law_524 h L xs kh23 a1 a2 a3 x4 else if ((xs (ix x4)) &&& 63) = 5 then B_L_law_597 h L xs kh23 a1 a2 a3 x4 else if ((xs (ix x4)) &&& 63) = 6 then B_L_law_665 h L xs kh23 a1 a2 a3 x4 else if ((xs (ix x4)) &&& 63) = 7 then B_L_law_721 h L xs kh23 a1 a2 a3 x4 else if ((xs (ix x4)) &&& 63) = 8 then B_L_law_746 h L xs kh23 a1 a2 a3 x4 else if ((xs (ix x4)) &&& 63) = 9 then B_L_law_802 h L xs kh23 a1 a2 a3 x4 else if ((xs (ix x4)) &&& 63) = 10 then B_L_law_858 h L xs kh23 a1 a2 a3 x4 else if ((xs (ix x4)) &&& 63) = 11 then B_L_law_926 h L xs kh23 a1 a2 a3 x4 else if ((xs (ix x4)) &&& 63) = 12 then B_L_law_982 h L xs kh23 a1 a2 a3 x4 else if ((xs (ix x4)) &&& 63) = 13 then B_L_law_1049 h L xs kh23 a1 a2 a3 x4 else if ((xs (ix x4)) &&& 63) = 14 then B_L_law_1105 h L xs kh23 a1 a2 a3 x4 else if ((xs (ix x4)) &&& 63) = 15 then B_L_law_1118 h L xs kh23 a1 a2 a3 x4 else if ((xs (ix x4)) &&& 63) = 16 then B_L_law_1202 h L xs kh23 a1 a2 a3 x4 else if ((xs (ix x4)) &&& 63) = 17 then B_L_law_1305 h L xs kh23 a1 a2 a3 x4 else if ((xs (ix x4)) &&& 63) = 18 then B_L_law_1319 h L xs kh23 a1 a2 a3 x4 else if ((xs (ix x4)) &&& 63) = 19 then B_L_law_1333 h L xs kh23 a1 a2 a3 x4 else if ((xs (ix x4)) &&& 63) = 20 then B_L_law_1389 h L xs kh23 a1 a2 a3 x4 else if ((xs (ix x4)) &&& 63) = 21 then B_L_law_1509 h L xs kh23 a1 a2 a3 x4 else if ((xs (ix x4)) &&& 63) = 22 then B_L_law_1589 h L xs kh23 a1 a2 a3 x4 else if ((xs (ix x4)) &&& 63) = 23 then B_L_law_1669 h L xs kh23 a1 a2 a3 x4 else if ((xs (ix x4)) &&& 63) = 24 then B_L_law_1737 h L xs kh23 a1 a2 a3 x4 else if ((xs (ix x4)) &&& 63) = 25 then B_L_law_1841 h L xs kh23 a1 a2 a3 x4 else if ((xs (ix x4)) &&& 63) = 26 then B_L_law_1960 h L xs kh23 a1 a2 a3 x4 else if ((xs (ix x4)) &&& 63) = 27 then B_L_law_2052 h L xs kh23 a1 a2 a3 x4 else if ((xs (ix x4)) &&& 63) = 28 then B_L_law_2144 h L xs kh23 a1 a2 a3 x4 else if ((xs (ix x4)) &&& 63) = 29 then B_L_law_2248 h L xs kh23 a1 a2 a3 x4 else if ((xs (ix x4)) &&& 63) = 30 then B_L_law_2323 h L xs kh23 a1 a2 a3 x4 else if ((xs (ix x4)) &&& 63) = 31 then B_L_law_2403 h L xs kh23 a1 a2 a3 x4 else if ((xs (ix x4)) &&& 63) = 32 then B_L_law_2414 h L xs kh23 a1 a2 a3 x4 else if ((xs (ix x4)) &&& 63) = 33 then B_L_law_2506 h L xs kh23 a1 a2 a3 x4 else if ((xs (ix x4)) &&& 63) = 34 then B_L_law_2598 h L xs kh23 a1 a2 a3 x4 else if ((xs (ix x4)) &&& 63) = 35 then B_L_law_2654 h L xs kh23 a1 a2 a3 x4 else if ((xs (ix x4)) &&& 63) = 36 then B_L_law_2714 h L xs kh23 a1 a2 a3 x4 else if ((xs (ix x4)) &&& 63) = 37 then B_L_law_2825 h L xs kh23 a1 a2 a3 x4 else if ((xs (ix x4)) &&& 63) = 38 then B_L_law_2861 h L xs kh23 a1 a2 a3 x4 else if ((xs (ix x4)) &&& 63) = 39 then B_L_law_2897 h L xs kh23 a1 a2 a3 x4 else B_L_law_2923 h L xs kh23 a1 a2 a3 x4)
def L_L_law_23 (h : AH) (L : Nat) (xs : Nat → Int32)  (self : (AH × Nat × Nat × Nat × Int32) → Option (Int32 × AH)) (s : AH × Nat × Nat × Nat × Int32) : Option (Int32 × AH) := B_L_law_23 s.1 L xs  (fun h a1 a2 a3 x4 => self (h, a1, a2, a3, x4)) s.2.1 s.2.2.1 s.2.2.2.1 s.2.2.2.2
def G_L_law_23 (h : AH) (L : Nat) (xs : Nat → Int32)  (a1 : Nat) (a2 : Nat) (a3 : Nat) (x4 : Int32) : Option (Int32 × AH) := lp (L_L_law_23 h L xs ) fuel (h, a1, a2, a3, x4)
def F_L_law (h : AH) (L : Nat) (xs : Nat → Int32)  : Option (Int32 × AH) := gd (1 ≤ hc h ∧ 21 ≤ hs h) (lh (nw h 1 0 21) fun h1176 => Option.bind (F_X1_init h1176 (hn h)) fun r1178 => gd (1 ≤ hc r1178 ∧ 40 ≤ hs r1178) (lh (nw r1178 8 0 40) fun h1181 => Option.bind (F_X8_init h1181 (hn r1178)) fun r1183 => gd (0 ≤ (1 : Int32).toInt ∧ ix 1 ≤ 1000000 ∧ 1 ≤ hc r1183 ∧ ix 1 ≤ hs r1183) (lh (nw r1183 102 (ix 1) (ix 1)) fun h1186 => G_L_law_23 h1186 L xs (hn h) (hn r1178) (hn r1183) 0)))
theorem w_L_law_2929 {cx : zX} {h0 : AH} (hC : Cx cx RX0 cL_law 8 8192 104096 (some .boolean) h0) {b L : Nat} {xs : Nat → Int32} (hX : zScr cx.G b L xs) {h : AH} {r : (Int32 × AH)}    (hF : B_L_law_2929 h L xs   = some r) : X cx 8 (zQ cx h0 (.inl (some (.int r.1))) r.2) h 2929 [] [] := by
  refine x_iconst (v := 1) hC dL_law_2929 (by decide) ?_
  have e := some_e hF
  subst e
  exact x_zret (ty := .boolean) hC (bl_n (Or.inr rfl)) dL_law_2930
theorem w_L_law_2923 {cx : zX} {h0 : AH} (hC : Cx cx RX0 cL_law 8 8192 104096 (some .boolean) h0) {b L : Nat} {xs : Nat → Int32} (hX : zScr cx.G b L xs) {h : AH} {r : (Int32 × AH)} {kh23 : AH → Nat → Nat → Nat → Int32 → Option (Int32 × AH)} (hk23 : ∀ (h : AH) (a1 : Nat) (a2 : Nat) (a3 : Nat) (x4 : Int32), kh23 h a1 a2 a3 x4 = some r → X cx 8 (zQ cx h0 (.inl (some (.int r.1))) r.2) h 23 [(0, .ref b), (1, .ref a1), (2, .ref a2), (3, .ref a3), (4, .int x4)] []) {a1 : Nat} {a2 : Nat} {a3 : Nat} {x4 : Int32} (hF : B_L_law_2923 h L xs kh23 a1 a2 a3 x4 = some r) : X cx 8 (zQ cx h0 (.inl (some (.int r.1))) r.2) h 2923 [(0, .ref b), (1, .ref a1), (2, .ref a2), (3, .ref a3), (4, .int x4)] [] := by
  refine x_iinc (lv' := [(0, .ref b), (1, .ref a1), (2, .ref a2), (3, .ref a3), (4, .int (x4 + 6))]) hC dL_law_2923 4 rfl rfl (by decide) [1, 2, 3, 4, 0] rfl ?_
  refine x_goto (tgt := 23) hC dL_law_2926 (by decide) ?_
  exact hk23 _ _ _ _ _ hF
theorem w_L_law_293 {cx : zX} {h0 : AH} (hC : Cx cx RX0 cL_law 8 8192 104096 (some .boolean) h0) {b L : Nat} {xs : Nat → Int32} (hX : zScr cx.G b L xs) {h : AH} {r : (Int32 × AH)} {kh23 : AH → Nat → Nat → Nat → Int32 → Option (Int32 × AH)} (hk23 : ∀ (h : AH) (a1 : Nat) (a2 : Nat) (a3 : Nat) (x4 : Int32), kh23 h a1 a2 a3 x4 = some r → X cx 8 (zQ cx h0 (.inl (some (.int r.1))) r.2) h 23 [(0, .ref b), (1, .ref a1), (2, .ref a2), (3, .ref a3), (4, .int x4)] []) {a1 : Nat} {a2 : Nat} {a3 : Nat} {x4 : Int32} (hF : B_L_law_293 h L xs kh23 a1 a2 a3 x4 = some r) : X cx 8 (zQ cx h0 (.inl (some (.int r.1))) r.2) h 293 [(0, .ref b), (1, .ref a1), (2, .ref a2), (3, .ref a3), (4, .int x4)] [] := by
  refine x_goto (tgt := 2923) hC dL_law_293 (by decide) ?_
  exact w_L_law_2923 hC hX hk23 hF
theorem w_L_law_291 {cx : zX} {h0 : AH} (hC : Cx cx RX0 cL_law 8 8192 104096 (some .boolean) h0) {b L : Nat} {xs : Nat → Int32} (hX : zScr cx.G b L xs) {h : AH} {r : (Int32 × AH)}    (hF : B_L_law_291 h L xs   = some r) : X cx 8 (zQ cx h0 (.inl (some (.int r.1))) r.2) h 291 [] [] := by
  refine x_iconst (v := 0) hC dL_law_291 (by decide) ?_
  have e := some_e hF
  subst e
  exact x_zret (ty := .boolean) hC (bl_n (Or.inl rfl)) dL_law_292
theorem w_L_law_274 {cx : zX} {h0 : AH} (hC : Cx cx RX0 cL_law 8 8192 104096 (some .boolean) h0) {b L : Nat} {xs : Nat → Int32} (hX : zScr cx.G b L xs) {h : AH} {r : (Int32 × AH)}    (hF : B_L_law_274 h L xs   = some r) : X cx 8 (zQ cx h0 (.inl (some (.int r.1))) r.2) h 274 [] [] := by
  refine x_iconst (v := 0) hC dL_law_274 (by decide) ?_
  have e := some_e hF
  subst e
  exact x_zret (ty := .boolean) hC (bl_n (Or.inl rfl)) dL_law_275
theorem w_L_law_216 {cx : zX} {h0 : AH} (hC : Cx cx RX0 cL_law 8 8192 104096 (some .boolean) h0) {b L : Nat} {xs : Nat → Int32} (hX : zScr cx.G b L xs) {h : AH} {r : (Int32 × AH)} {kh23 : AH → Nat → Nat → Nat → Int32 → Option (Int32 × AH)} (hk23 : ∀ (h : AH) (a1 : Nat) (a2 : Nat) (a3 : Nat) (x4 : Int32), kh23 h a1 a2 a3 x4 = some r → X cx 8 (zQ cx h0 (.inl (some (.int r.1))) r.2) h 23 [(0, .ref b), (1, .ref a1), (2, .ref a2), (3, .ref a3), (4, .int x4)] []) {a1 : Nat} {a2 : Nat} {a3 : Nat} {x4 : Int32} (hF : B_L_law_216 h L xs kh23 a1 a2 a3 x4 = some r) : X cx 8 (zQ cx h0 (.inl (some (.int r.1))) r.2) h 216 [(0, .ref b), (1, .ref a1), (2, .ref a2), (3, .ref a3), (4, .int x4)] [] := by
  refine x_aload_n hC dL_law_216 1 rfl ?_
  refine x_aload_n hC dL_law_217 0 rfl ?_
  refine x_iload hC dL_law_218 4 rfl ?_
  refine x_iconst (v := 1) hC dL_law_220 (by decide) ?_
  refine x_iadd hC dL_law_221 ?_
  obtain ⟨g539, hF⟩ := gd_e hF
  refine x_sld hC hX g539 dL_law_222 ?_
  refine x_aload_n hC dL_law_223 0 rfl ?_
  refine x_iload hC dL_law_224 4 rfl ?_
  refine x_iconst (v := 2) hC dL_law_226 (by decide) ?_
  refine x_iadd hC dL_law_227 ?_
  obtain ⟨g540, hF⟩ := gd_e hF
  refine x_sld hC hX g540 dL_law_228 ?_
  refine x_aload_n hC dL_law_229 0 rfl ?_
  refine x_iload hC dL_law_230 4 rfl ?_
  refine x_iconst (v := 3) hC dL_law_232 (by decide) ?_
  refine x_iadd hC dL_law_233 ?_
  obtain ⟨g541, hF⟩ := gd_e hF
  refine x_sld hC hX g541 dL_law_234 ?_
  refine x_aload_n hC dL_law_235 3 rfl ?_
  obtain ⟨r542, e543, hF⟩ := bd_e hF
  refine xk_SW (As := [.ref a1, .int (xs (ix (x4 + 1))), .int (xs (ix (x4 + 2))), .int (xs (ix (x4 + 3))), .ref a3]) (st := []) hC (m_X0_station hC.fl e543) q482 q483 q484 q96 hy_X0_station ⟨Nat.le_of_ble_eq_true rfl, Nat.le_of_ble_eq_true rfl⟩ (Nat.le_of_ble_eq_true rfl) rfl dL_law_236 ?_
  refine x_istore (lv' := [(0, .ref b), (1, .ref a1), (2, .ref a2), (3, .ref a3), (4, .int x4), (5, .int r542.1)]) hC dL_law_239 (by decide) [1, 2, 3, 4, 5, 0] rfl ?_
  refine x_aload_n hC dL_law_241 2 rfl ?_
  refine x_aload_n hC dL_law_242 0 rfl ?_
  refine x_iload hC dL_law_243 4 rfl ?_
  refine x_iconst (v := 1) hC dL_law_245 (by decide) ?_
  refine x_iadd hC dL_law_246 ?_
  obtain ⟨g544, hF⟩ := gd_e hF
  refine x_sld hC hX g544 dL_law_247 ?_
  refine x_aload_n hC dL_law_248 0 rfl ?_
  refine x_iload hC dL_law_249 4 rfl ?_
  refine x_iconst (v := 2) hC dL_law_251 (by decide) ?_
  refine x_iadd hC dL_law_252 ?_
  obtain ⟨g545, hF⟩ := gd_e hF
  refine x_sld hC hX g545 dL_law_253 ?_
  refine x_aload_n hC dL_law_254 0 rfl ?_
  refine x_iload hC dL_law_255 4 rfl ?_
  refine x_iconst (v := 3) hC dL_law_257 (by decide) ?_
  refine x_iadd hC dL_law_258 ?_
  obtain ⟨g546, hF⟩ := gd_e hF
  refine x_sld hC hX g546 dL_law_259 ?_
  obtain ⟨g547, hF⟩ := gd_e hF
  obtain ⟨r548, e549, hF⟩ := bd_e hF
  refine xk_V (κ := 8) (As := [.int (xs (ix (x4 + 1))), .int (xs (ix (x4 + 2))), .int (xs (ix (x4 + 3)))]) (st := []) hC (m_X8_station hC.fl e549) g547 rfl q1954 q1955 q1956 q1957 q107 hy_X8_station ⟨Nat.le_of_ble_eq_true rfl, Nat.le_of_ble_eq_true rfl⟩ (Nat.le_of_ble_eq_true rfl) rfl dL_law_260 ?_
  refine x_istore (lv' := [(0, .ref b), (1, .ref a1), (2, .ref a2), (3, .ref a3), (4, .int x4), (5, .int r542.1), (6, .int r548.1)]) hC dL_law_263 (by decide) [1, 2, 3, 4, 5, 6, 0] rfl ?_
  refine x_aload_n hC dL_law_265 2 rfl ?_
  obtain ⟨g550, hF⟩ := gd_e hF
  obtain ⟨r551, e552, hF⟩ := bd_e hF
  refine xk_V (κ := 8) (As := []) (st := []) hC (m_X8_thrown hC.fl e552) g550 rfl q1950 q1951 q1952 q1953 q107 hy_X8_thrown ⟨Nat.le_of_ble_eq_true rfl, Nat.le_of_ble_eq_true rfl⟩ (Nat.le_of_ble_eq_true rfl) rfl dL_law_266 ?_
  refine x_iload hC dL_law_269 5 rfl ?_
  refine x_icmp_eq (tgt := 276) hC dL_law_271 (by decide) (fun u556 => ?_) (fun u556 => ?_)
  · have hF := it_t u556 hF
    refine x_iload hC dL_law_276 5 rfl ?_
    refine x_if_ne (tgt := 293) hC dL_law_278 (by decide) (fun u555 => ?_) (fun u555 => ?_)
    · have hF := it_f u555 hF
      refine X.sub (lv' := [(0, .ref b), (1, .ref a1), (2, .ref a2), (3, .ref a3), (4, .int x4)]) [0, 1, 2, 3, 4] rfl ?_
      exact w_L_law_293 hC hX hk23 hF
    · have hF := it_t u555 hF
      refine x_aload_n hC dL_law_281 3 rfl ?_
      refine x_iconst (v := 0) hC dL_law_282 (by decide) ?_
      obtain ⟨g553, hF⟩ := gd_e hF
      refine x_lald hC g553.1 g553.2 dL_law_283 ?_
      refine x_iload hC dL_law_284 6 rfl ?_
      refine x_i2l hC dL_law_286 ?_
      refine x_lcmp hC dL_law_287 ?_
      refine x_if_eq (tgt := 293) hC dL_law_288 (by decide) (fun u554 => ?_) (fun u554 => ?_)
      · have hF := it_t u554 hF
        refine X.sub (lv' := [(0, .ref b), (1, .ref a1), (2, .ref a2), (3, .ref a3), (4, .int x4)]) [0, 1, 2, 3, 4] rfl ?_
        exact w_L_law_293 hC hX hk23 hF
      · have hF := it_f u554 hF
        refine X.sub (lv' := []) [] rfl ?_
        exact w_L_law_291 hC hX  hF
  · have hF := it_f u556 hF
    refine X.sub (lv' := []) [] rfl ?_
    exact w_L_law_274 hC hX  hF
theorem w_L_law_385 {cx : zX} {h0 : AH} (hC : Cx cx RX0 cL_law 8 8192 104096 (some .boolean) h0) {b L : Nat} {xs : Nat → Int32} (hX : zScr cx.G b L xs) {h : AH} {r : (Int32 × AH)} {kh23 : AH → Nat → Nat → Nat → Int32 → Option (Int32 × AH)} (hk23 : ∀ (h : AH) (a1 : Nat) (a2 : Nat) (a3 : Nat) (x4 : Int32), kh23 h a1 a2 a3 x4 = some r → X cx 8 (zQ cx h0 (.inl (some (.int r.1))) r.2) h 23 [(0, .ref b), (1, .ref a1), (2, .ref a2), (3, .ref a3), (4, .int x4)] []) {a1 : Nat} {a2 : Nat} {a3 : Nat} {x4 : Int32} (hF : B_L_law_385 h L xs kh23 a1 a2 a3 x4 = some r) : X cx 8 (zQ cx h0 (.inl (some (.int r.1))) r.2) h 385 [(0, .ref b), (1, .ref a1), (2, .ref a2), (3, .ref a3), (4, .int x4)] [] := by
  refine x_goto (tgt := 2923) hC dL_law_385 (by decide) ?_
  exact w_L_law_2923 hC hX hk23 hF
theorem w_L_law_383 {cx : zX} {h0 : AH} (hC : Cx cx RX0 cL_law 8 8192 104096 (some .boolean) h0) {b L : Nat} {xs : Nat → Int32} (hX : zScr cx.G b L xs) {h : AH} {r : (Int32 × AH)}    (hF : B_L_law_383 h L xs   = some r) : X cx 8 (zQ cx h0 (.inl (some (.int r.1))) r.2) h 383 [] [] := by
  refine x_iconst (v := 0) hC dL_law_383 (by decide) ?_
  have e := some_e hF
  subst e
  exact x_zret (ty := .boolean) hC (bl_n (Or.inl rfl)) dL_law_384
theorem w_L_law_366 {cx : zX} {h0 : AH} (hC : Cx cx RX0 cL_law 8 8192 104096 (some .boolean) h0) {b L : Nat} {xs : Nat → Int32} (hX : zScr cx.G b L xs) {h : AH} {r : (Int32 × AH)}    (hF : B_L_law_366 h L xs   = some r) : X cx 8 (zQ cx h0 (.inl (some (.int r.1))) r.2) h 366 [] [] := by
  refine x_iconst (v := 0) hC dL_law_366 (by decide) ?_
  have e := some_e hF
  subst e
  exact x_zret (ty := .boolean) hC (bl_n (Or.inl rfl)) dL_law_367
theorem w_L_law_296 {cx : zX} {h0 : AH} (hC : Cx cx RX0 cL_law 8 8192 104096 (some .boolean) h0) {b L : Nat} {xs : Nat → Int32} (hX : zScr cx.G b L xs) {h : AH} {r : (Int32 × AH)} {kh23 : AH → Nat → Nat → Nat → Int32 → Option (Int32 × AH)} (hk23 : ∀ (h : AH) (a1 : Nat) (a2 : Nat) (a3 : Nat) (x4 : Int32), kh23 h a1 a2 a3 x4 = some r → X cx 8 (zQ cx h0 (.inl (some (.int r.1))) r.2) h 23 [(0, .ref b), (1, .ref a1), (2, .ref a2), (3, .ref a3), (4, .int x4)] []) {a1 : Nat} {a2 : Nat} {a3 : Nat} {x4 : Int32} (hF : B_L_law_296 h L xs kh23 a1 a2 a3 x4 = some r) : X cx 8 (zQ cx h0 (.inl (some (.int r.1))) r.2) h 296 [(0, .ref b), (1, .ref a1), (2, .ref a2), (3, .ref a3), (4, .int x4)] [] := by
  refine x_aload_n hC dL_law_296 1 rfl ?_
  refine x_aload_n hC dL_law_297 0 rfl ?_
  refine x_iload hC dL_law_298 4 rfl ?_
  refine x_iconst (v := 1) hC dL_law_300 (by decide) ?_
  refine x_iadd hC dL_law_301 ?_
  obtain ⟨g557, hF⟩ := gd_e hF
  refine x_sld hC hX g557 dL_law_302 ?_
  refine x_aload_n hC dL_law_303 0 rfl ?_
  refine x_iload hC dL_law_304 4 rfl ?_
  refine x_iconst (v := 2) hC dL_law_306 (by decide) ?_
  refine x_iadd hC dL_law_307 ?_
  obtain ⟨g558, hF⟩ := gd_e hF
  refine x_sld hC hX g558 dL_law_308 ?_
  refine x_aload_n hC dL_law_309 0 rfl ?_
  refine x_iload hC dL_law_310 4 rfl ?_
  refine x_iconst (v := 3) hC dL_law_312 (by decide) ?_
  refine x_iadd hC dL_law_313 ?_
  obtain ⟨g559, hF⟩ := gd_e hF
  refine x_sld hC hX g559 dL_law_314 ?_
  refine x_aload_n hC dL_law_315 0 rfl ?_
  refine x_iload hC dL_law_316 4 rfl ?_
  refine x_iconst (v := 4) hC dL_law_318 (by decide) ?_
  refine x_iadd hC dL_law_319 ?_
  obtain ⟨g560, hF⟩ := gd_e hF
  refine x_sld hC hX g560 dL_law_320 ?_
  refine x_aload_n hC dL_law_321 3 rfl ?_
  obtain ⟨r561, e562, hF⟩ := bd_e hF
  refine xk_SW (As := [.ref a1, .int (xs (ix (x4 + 1))), .int (xs (ix (x4 + 2))), .int (xs (ix (x4 + 3))), .int (xs (ix (x4 + 4))), .ref a3]) (st := []) hC (m_X0_driver hC.fl e562) q722 q723 q724 q96 hy_X0_driver ⟨Nat.le_of_ble_eq_true rfl, Nat.le_of_ble_eq_true rfl⟩ (Nat.le_of_ble_eq_true rfl) rfl dL_law_322 ?_
  refine x_istore (lv' := [(0, .ref b), (1, .ref a1), (2, .ref a2), (3, .ref a3), (4, .int x4), (5, .int r561.1)]) hC dL_law_325 (by decide) [1, 2, 3, 4, 5, 0] rfl ?_
  refine x_aload_n hC dL_law_327 2 rfl ?_
  refine x_aload_n hC dL_law_328 0 rfl ?_
  refine x_iload hC dL_law_329 4 rfl ?_
  refine x_iconst (v := 1) hC dL_law_331 (by decide) ?_
  refine x_iadd hC dL_law_332 ?_
  obtain ⟨g563, hF⟩ := gd_e hF
  refine x_sld hC hX g563 dL_law_333 ?_
  refine x_aload_n hC dL_law_334 0 rfl ?_
  refine x_iload hC dL_law_335 4 rfl ?_
  refine x_iconst (v := 2) hC dL_law_337 (by decide) ?_
  refine x_iadd hC dL_law_338 ?_
  obtain ⟨g564, hF⟩ := gd_e hF
  refine x_sld hC hX g564 dL_law_339 ?_
  refine x_aload_n hC dL_law_340 0 rfl ?_
  refine x_iload hC dL_law_341 4 rfl ?_
  refine x_iconst (v := 3) hC dL_law_343 (by decide) ?_
  refine x_iadd hC dL_law_344 ?_
  obtain ⟨g565, hF⟩ := gd_e hF
  refine x_sld hC hX g565 dL_law_345 ?_
  refine x_aload_n hC dL_law_346 0 rfl ?_
  refine x_iload hC dL_law_347 4 rfl ?_
  refine x_iconst (v := 4) hC dL_law_349 (by decide) ?_
  refine x_iadd hC dL_law_350 ?_
  obtain ⟨g566, hF⟩ := gd_e hF
  refine x_sld hC hX g566 dL_law_351 ?_
  obtain ⟨g567, hF⟩ := gd_e hF
  obtain ⟨r568, e569, hF⟩ := bd_e hF
  refine xk_V (κ := 8) (As := [.int (xs (ix (x4 + 1))), .int (xs (ix (x4 + 2))), .int (xs (ix (x4 + 3))), .int (xs (ix (x4 + 4)))]) (st := []) hC (m_X8_driver hC.fl e569) g567 rfl q1967 q1968 q1969 q1970 q107 hy_X8_driver ⟨Nat.le_of_ble_eq_true rfl, Nat.le_of_ble_eq_true rfl⟩ (Nat.le_of_ble_eq_true rfl) rfl dL_law_352 ?_
  refine x_istore (lv' := [(0, .ref b), (1, .ref a1), (2, .ref a2), (3, .ref a3), (4, .int x4), (5, .int r561.1), (6, .int r568.1)]) hC dL_law_355 (by decide) [1, 2, 3, 4, 5, 6, 0] rfl ?_
  refine x_aload_n hC dL_law_357 2 rfl ?_
  obtain ⟨g570, hF⟩ := gd_e hF
  obtain ⟨r571, e572, hF⟩ := bd_e hF
  refine xk_V (κ := 8) (As := []) (st := []) hC (m_X8_thrown hC.fl e572) g570 rfl q1950 q1951 q1952 q1953 q107 hy_X8_thrown ⟨Nat.le_of_ble_eq_true rfl, Nat.le_of_ble_eq_true rfl⟩ (Nat.le_of_ble_eq_true rfl) rfl dL_law_358 ?_
  refine x_iload hC dL_law_361 5 rfl ?_
  refine x_icmp_eq (tgt := 368) hC dL_law_363 (by decide) (fun u576 => ?_) (fun u576 => ?_)
  · have hF := it_t u576 hF
    refine x_iload hC dL_law_368 5 rfl ?_
    refine x_if_ne (tgt := 385) hC dL_law_370 (by decide) (fun u575 => ?_) (fun u575 => ?_)
    · have hF := it_f u575 hF
      refine X.sub (lv' := [(0, .ref b), (1, .ref a1), (2, .ref a2), (3, .ref a3), (4, .int x4)]) [0, 1, 2, 3, 4] rfl ?_
      exact w_L_law_385 hC hX hk23 hF
    · have hF := it_t u575 hF
      refine x_aload_n hC dL_law_373 3 rfl ?_
      refine x_iconst (v := 0) hC dL_law_374 (by decide) ?_
      obtain ⟨g573, hF⟩ := gd_e hF
      refine x_lald hC g573.1 g573.2 dL_law_375 ?_
      refine x_iload hC dL_law_376 6 rfl ?_
      refine x_i2l hC dL_law_378 ?_
      refine x_lcmp hC dL_law_379 ?_
      refine x_if_eq (tgt := 385) hC dL_law_380 (by decide) (fun u574 => ?_) (fun u574 => ?_)
      · have hF := it_t u574 hF
        refine X.sub (lv' := [(0, .ref b), (1, .ref a1), (2, .ref a2), (3, .ref a3), (4, .int x4)]) [0, 1, 2, 3, 4] rfl ?_
        exact w_L_law_385 hC hX hk23 hF
      · have hF := it_f u574 hF
        refine X.sub (lv' := []) [] rfl ?_
        exact w_L_law_383 hC hX  hF
  · have hF := it_f u576 hF
    refine X.sub (lv' := []) [] rfl ?_
    exact w_L_law_366 hC hX  hF
theorem w_L_law_453 {cx : zX} {h0 : AH} (hC : Cx cx RX0 cL_law 8 8192 104096 (some .boolean) h0) {b L : Nat} {xs : Nat → Int32} (hX : zScr cx.G b L xs) {h : AH} {r : (Int32 × AH)} {kh23 : AH → Nat → Nat → Nat → Int32 → Option (Int32 × AH)} (hk23 : ∀ (h : AH) (a1 : Nat) (a2 : Nat) (a3 : Nat) (x4 : Int32), kh23 h a1 a2 a3 x4 = some r → X cx 8 (zQ cx h0 (.inl (some (.int r.1))) r.2) h 23 [(0, .ref b), (1, .ref a1), (2, .ref a2), (3, .ref a3), (4, .int x4)] []) {a1 : Nat} {a2 : Nat} {a3 : Nat} {x4 : Int32} (hF : B_L_law_453 h L xs kh23 a1 a2 a3 x4 = some r) : X cx 8 (zQ cx h0 (.inl (some (.int r.1))) r.2) h 453 [(0, .ref b), (1, .ref a1), (2, .ref a2), (3, .ref a3), (4, .int x4)] [] := by
  refine x_goto (tgt := 2923) hC dL_law_453 (by decide) ?_
  exact w_L_law_2923 hC hX hk23 hF
theorem w_L_law_451 {cx : zX} {h0 : AH} (hC : Cx cx RX0 cL_law 8 8192 104096 (some .boolean) h0) {b L : Nat} {xs : Nat → Int32} (hX : zScr cx.G b L xs) {h : AH} {r : (Int32 × AH)}    (hF : B_L_law_451 h L xs   = some r) : X cx 8 (zQ cx h0 (.inl (some (.int r.1))) r.2) h 451 [] [] := by
  refine x_iconst (v := 0) hC dL_law_451 (by decide) ?_
  have e := some_e hF
  subst e
  exact x_zret (ty := .boolean) hC (bl_n (Or.inl rfl)) dL_law_452
theorem w_L_law_434 {cx : zX} {h0 : AH} (hC : Cx cx RX0 cL_law 8 8192 104096 (some .boolean) h0) {b L : Nat} {xs : Nat → Int32} (hX : zScr cx.G b L xs) {h : AH} {r : (Int32 × AH)}    (hF : B_L_law_434 h L xs   = some r) : X cx 8 (zQ cx h0 (.inl (some (.int r.1))) r.2) h 434 [] [] := by
  refine x_iconst (v := 0) hC dL_law_434 (by decide) ?_
  have e := some_e hF
  subst e
  exact x_zret (ty := .boolean) hC (bl_n (Or.inl rfl)) dL_law_435
theorem w_L_law_388 {cx : zX} {h0 : AH} (hC : Cx cx RX0 cL_law 8 8192 104096 (some .boolean) h0) {b L : Nat} {xs : Nat → Int32} (hX : zScr cx.G b L xs) {h : AH} {r : (Int32 × AH)} {kh23 : AH → Nat → Nat → Nat → Int32 → Option (Int32 × AH)} (hk23 : ∀ (h : AH) (a1 : Nat) (a2 : Nat) (a3 : Nat) (x4 : Int32), kh23 h a1 a2 a3 x4 = some r → X cx 8 (zQ cx h0 (.inl (some (.int r.1))) r.2) h 23 [(0, .ref b), (1, .ref a1), (2, .ref a2), (3, .ref a3), (4, .int x4)] []) {a1 : Nat} {a2 : Nat} {a3 : Nat} {x4 : Int32} (hF : B_L_law_388 h L xs kh23 a1 a2 a3 x4 = some r) : X cx 8 (zQ cx h0 (.inl (some (.int r.1))) r.2) h 388 [(0, .ref b), (1, .ref a1), (2, .ref a2), (3, .ref a3), (4, .int x4)] [] := by
  refine x_aload_n hC dL_law_388 1 rfl ?_
  refine x_aload_n hC dL_law_389 0 rfl ?_
  refine x_iload hC dL_law_390 4 rfl ?_
  refine x_iconst (v := 1) hC dL_law_392 (by decide) ?_
  refine x_iadd hC dL_law_393 ?_
  obtain ⟨g577, hF⟩ := gd_e hF
  refine x_sld hC hX g577 dL_law_394 ?_
  refine x_aload_n hC dL_law_395 0 rfl ?_
  refine x_iload hC dL_law_396 4 rfl ?_
  refine x_iconst (v := 2) hC dL_law_398 (by decide) ?_
  refine x_iadd hC dL_law_399 ?_
  obtain ⟨g578, hF⟩ := gd_e hF
  refine x_sld hC hX g578 dL_law_400 ?_
  refine x_aload_n hC dL_law_401 3 rfl ?_
  obtain ⟨r579, e580, hF⟩ := bd_e hF
  refine xk_SW (As := [.ref a1, .int (xs (ix (x4 + 1))), .int (xs (ix (x4 + 2))), .ref a3]) (st := []) hC (m_X0_cost hC.fl e580) q776 q777 q778 q96 hy_X0_cost ⟨Nat.le_of_ble_eq_true rfl, Nat.le_of_ble_eq_true rfl⟩ (Nat.le_of_ble_eq_true rfl) rfl dL_law_402 ?_
  refine x_istore (lv' := [(0, .ref b), (1, .ref a1), (2, .ref a2), (3, .ref a3), (4, .int x4), (5, .int r579.1)]) hC dL_law_405 (by decide) [1, 2, 3, 4, 5, 0] rfl ?_
  refine x_aload_n hC dL_law_407 2 rfl ?_
  refine x_aload_n hC dL_law_408 0 rfl ?_
  refine x_iload hC dL_law_409 4 rfl ?_
  refine x_iconst (v := 1) hC dL_law_411 (by decide) ?_
  refine x_iadd hC dL_law_412 ?_
  obtain ⟨g581, hF⟩ := gd_e hF
  refine x_sld hC hX g581 dL_law_413 ?_
  refine x_aload_n hC dL_law_414 0 rfl ?_
  refine x_iload hC dL_law_415 4 rfl ?_
  refine x_iconst (v := 2) hC dL_law_417 (by decide) ?_
  refine x_iadd hC dL_law_418 ?_
  obtain ⟨g582, hF⟩ := gd_e hF
  refine x_sld hC hX g582 dL_law_419 ?_
  obtain ⟨g583, hF⟩ := gd_e hF
  obtain ⟨r584, e585, hF⟩ := bd_e hF
  refine xk_V (κ := 8) (As := [.int (xs (ix (x4 + 1))), .int (xs (ix (x4 + 2)))]) (st := []) hC (m_X8_cost hC.fl e585) g583 rfl q1976 q1977 q1978 q1979 q107 hy_X8_cost ⟨Nat.le_of_ble_eq_true rfl, Nat.le_of_ble_eq_true rfl⟩ (Nat.le_of_ble_eq_true rfl) rfl dL_law_420 ?_
  refine x_istore (lv' := [(0, .ref b), (1, .ref a1), (2, .ref a2), (3, .ref a3), (4, .int x4), (5, .int r579.1), (6, .int r584.1)]) hC dL_law_423 (by decide) [1, 2, 3, 4, 5, 6, 0] rfl ?_
  refine x_aload_n hC dL_law_425 2 rfl ?_
  obtain ⟨g586, hF⟩ := gd_e hF
  obtain ⟨r587, e588, hF⟩ := bd_e hF
  refine xk_V (κ := 8) (As := []) (st := []) hC (m_X8_thrown hC.fl e588) g586 rfl q1950 q1951 q1952 q1953 q107 hy_X8_thrown ⟨Nat.le_of_ble_eq_true rfl, Nat.le_of_ble_eq_true rfl⟩ (Nat.le_of_ble_eq_true rfl) rfl dL_law_426 ?_
  refine x_iload hC dL_law_429 5 rfl ?_
  refine x_icmp_eq (tgt := 436) hC dL_law_431 (by decide) (fun u592 => ?_) (fun u592 => ?_)
  · have hF := it_t u592 hF
    refine x_iload hC dL_law_436 5 rfl ?_
    refine x_if_ne (tgt := 453) hC dL_law_438 (by decide) (fun u591 => ?_) (fun u591 => ?_)
    · have hF := it_f u591 hF
      refine X.sub (lv' := [(0, .ref b), (1, .ref a1), (2, .ref a2), (3, .ref a3), (4, .int x4)]) [0, 1, 2, 3, 4] rfl ?_
      exact w_L_law_453 hC hX hk23 hF
    · have hF := it_t u591 hF
      refine x_aload_n hC dL_law_441 3 rfl ?_
      refine x_iconst (v := 0) hC dL_law_442 (by decide) ?_
      obtain ⟨g589, hF⟩ := gd_e hF
      refine x_lald hC g589.1 g589.2 dL_law_443 ?_
      refine x_iload hC dL_law_444 6 rfl ?_
      refine x_i2l hC dL_law_446 ?_
      refine x_lcmp hC dL_law_447 ?_
      refine x_if_eq (tgt := 453) hC dL_law_448 (by decide) (fun u590 => ?_) (fun u590 => ?_)
      · have hF := it_t u590 hF
        refine X.sub (lv' := [(0, .ref b), (1, .ref a1), (2, .ref a2), (3, .ref a3), (4, .int x4)]) [0, 1, 2, 3, 4] rfl ?_
        exact w_L_law_453 hC hX hk23 hF
      · have hF := it_f u590 hF
        refine X.sub (lv' := []) [] rfl ?_
        exact w_L_law_451 hC hX  hF
  · have hF := it_f u592 hF
    refine X.sub (lv' := []) [] rfl ?_
    exact w_L_law_434 hC hX  hF
theorem w_L_law_521 {cx : zX} {h0 : AH} (hC : Cx cx RX0 cL_law 8 8192 104096 (some .boolean) h0) {b L : Nat} {xs : Nat → Int32} (hX : zScr cx.G b L xs) {h : AH} {r : (Int32 × AH)} {kh23 : AH → Nat → Nat → Nat → Int32 → Option (Int32 × AH)} (hk23 : ∀ (h : AH) (a1 : Nat) (a2 : Nat) (a3 : Nat) (x4 : Int32), kh23 h a1 a2 a3 x4 = some r → X cx 8 (zQ cx h0 (.inl (some (.int r.1))) r.2) h 23 [(0, .ref b), (1, .ref a1), (2, .ref a2), (3, .ref a3), (4, .int x4)] []) {a1 : Nat} {a2 : Nat} {a3 : Nat} {x4 : Int32} (hF : B_L_law_521 h L xs kh23 a1 a2 a3 x4 = some r) : X cx 8 (zQ cx h0 (.inl (some (.int r.1))) r.2) h 521 [(0, .ref b), (1, .ref a1), (2, .ref a2), (3, .ref a3), (4, .int x4)] [] := by
  refine x_goto (tgt := 2923) hC dL_law_521 (by decide) ?_
  exact w_L_law_2923 hC hX hk23 hF
theorem w_L_law_519 {cx : zX} {h0 : AH} (hC : Cx cx RX0 cL_law 8 8192 104096 (some .boolean) h0) {b L : Nat} {xs : Nat → Int32} (hX : zScr cx.G b L xs) {h : AH} {r : (Int32 × AH)}    (hF : B_L_law_519 h L xs   = some r) : X cx 8 (zQ cx h0 (.inl (some (.int r.1))) r.2) h 519 [] [] := by
  refine x_iconst (v := 0) hC dL_law_519 (by decide) ?_
  have e := some_e hF
  subst e
  exact x_zret (ty := .boolean) hC (bl_n (Or.inl rfl)) dL_law_520
theorem w_L_law_502 {cx : zX} {h0 : AH} (hC : Cx cx RX0 cL_law 8 8192 104096 (some .boolean) h0) {b L : Nat} {xs : Nat → Int32} (hX : zScr cx.G b L xs) {h : AH} {r : (Int32 × AH)}    (hF : B_L_law_502 h L xs   = some r) : X cx 8 (zQ cx h0 (.inl (some (.int r.1))) r.2) h 502 [] [] := by
  refine x_iconst (v := 0) hC dL_law_502 (by decide) ?_
  have e := some_e hF
  subst e
  exact x_zret (ty := .boolean) hC (bl_n (Or.inl rfl)) dL_law_503
theorem w_L_law_456 {cx : zX} {h0 : AH} (hC : Cx cx RX0 cL_law 8 8192 104096 (some .boolean) h0) {b L : Nat} {xs : Nat → Int32} (hX : zScr cx.G b L xs) {h : AH} {r : (Int32 × AH)} {kh23 : AH → Nat → Nat → Nat → Int32 → Option (Int32 × AH)} (hk23 : ∀ (h : AH) (a1 : Nat) (a2 : Nat) (a3 : Nat) (x4 : Int32), kh23 h a1 a2 a3 x4 = some r → X cx 8 (zQ cx h0 (.inl (some (.int r.1))) r.2) h 23 [(0, .ref b), (1, .ref a1), (2, .ref a2), (3, .ref a3), (4, .int x4)] []) {a1 : Nat} {a2 : Nat} {a3 : Nat} {x4 : Int32} (hF : B_L_law_456 h L xs kh23 a1 a2 a3 x4 = some r) : X cx 8 (zQ cx h0 (.inl (some (.int r.1))) r.2) h 456 [(0, .ref b), (1, .ref a1), (2, .ref a2), (3, .ref a3), (4, .int x4)] [] := by
  refine x_aload_n hC dL_law_456 1 rfl ?_
  refine x_aload_n hC dL_law_457 0 rfl ?_
  refine x_iload hC dL_law_458 4 rfl ?_
  refine x_iconst (v := 1) hC dL_law_460 (by decide) ?_
  refine x_iadd hC dL_law_461 ?_
  obtain ⟨g593, hF⟩ := gd_e hF
  refine x_sld hC hX g593 dL_law_462 ?_
  refine x_aload_n hC dL_law_463 0 rfl ?_
  refine x_iload hC dL_law_464 4 rfl ?_
  refine x_iconst (v := 2) hC dL_law_466 (by decide) ?_
  refine x_iadd hC dL_law_467 ?_
  obtain ⟨g594, hF⟩ := gd_e hF
  refine x_sld hC hX g594 dL_law_468 ?_
  refine x_aload_n hC dL_law_469 3 rfl ?_
  obtain ⟨r595, e596, hF⟩ := bd_e hF
  refine xk_SW (As := [.ref a1, .int (xs (ix (x4 + 1))), .int (xs (ix (x4 + 2))), .ref a3]) (st := []) hC (m_X0_late hC.fl e596) q811 q812 q813 q96 hy_X0_late ⟨Nat.le_of_ble_eq_true rfl, Nat.le_of_ble_eq_true rfl⟩ (Nat.le_of_ble_eq_true rfl) rfl dL_law_470 ?_
  refine x_istore (lv' := [(0, .ref b), (1, .ref a1), (2, .ref a2), (3, .ref a3), (4, .int x4), (5, .int r595.1)]) hC dL_law_473 (by decide) [1, 2, 3, 4, 5, 0] rfl ?_
  refine x_aload_n hC dL_law_475 2 rfl ?_
  refine x_aload_n hC dL_law_476 0 rfl ?_
  refine x_iload hC dL_law_477 4 rfl ?_
  refine x_iconst (v := 1) hC dL_law_479 (by decide) ?_
  refine x_iadd hC dL_law_480 ?_
  obtain ⟨g597, hF⟩ := gd_e hF
  refine x_sld hC hX g597 dL_law_481 ?_
  refine x_aload_n hC dL_law_482 0 rfl ?_
  refine x_iload hC dL_law_483 4 rfl ?_
  refine x_iconst (v := 2) hC dL_law_485 (by decide) ?_
  refine x_iadd hC dL_law_486 ?_
  obtain ⟨g598, hF⟩ := gd_e hF
  refine x_sld hC hX g598 dL_law_487 ?_
  obtain ⟨g599, hF⟩ := gd_e hF
  obtain ⟨r600, e601, hF⟩ := bd_e hF
  refine xk_V (κ := 8) (As := [.int (xs (ix (x4 + 1))), .int (xs (ix (x4 + 2)))]) (st := []) hC (m_X8_late hC.fl e601) g599 rfl q1984 q1985 q1986 q1987 q107 hy_X8_late ⟨Nat.le_of_ble_eq_true rfl, Nat.le_of_ble_eq_true rfl⟩ (Nat.le_of_ble_eq_true rfl) rfl dL_law_488 ?_
  refine x_istore (lv' := [(0, .ref b), (1, .ref a1), (2, .ref a2), (3, .ref a3), (4, .int x4), (5, .int r595.1), (6, .int r600.1)]) hC dL_law_491 (by decide) [1, 2, 3, 4, 5, 6, 0] rfl ?_
  refine x_aload_n hC dL_law_493 2 rfl ?_
  obtain ⟨g602, hF⟩ := gd_e hF
  obtain ⟨r603, e604, hF⟩ := bd_e hF
  refine xk_V (κ := 8) (As := []) (st := []) hC (m_X8_thrown hC.fl e604) g602 rfl q1950 q1951 q1952 q1953 q107 hy_X8_thrown ⟨Nat.le_of_ble_eq_true rfl, Nat.le_of_ble_eq_true rfl⟩ (Nat.le_of_ble_eq_true rfl) rfl dL_law_494 ?_
  refine x_iload hC dL_law_497 5 rfl ?_
  refine x_icmp_eq (tgt := 504) hC dL_law_499 (by decide) (fun u608 => ?_) (fun u608 => ?_)
  · have hF := it_t u608 hF
    refine x_iload hC dL_law_504 5 rfl ?_
    refine x_if_ne (tgt := 521) hC dL_law_506 (by decide) (fun u607 => ?_) (fun u607 => ?_)
    · have hF := it_f u607 hF
      refine X.sub (lv' := [(0, .ref b), (1, .ref a1), (2, .ref a2), (3, .ref a3), (4, .int x4)]) [0, 1, 2, 3, 4] rfl ?_
      exact w_L_law_521 hC hX hk23 hF
    · have hF := it_t u607 hF
      refine x_aload_n hC dL_law_509 3 rfl ?_
      refine x_iconst (v := 0) hC dL_law_510 (by decide) ?_
      obtain ⟨g605, hF⟩ := gd_e hF
      refine x_lald hC g605.1 g605.2 dL_law_511 ?_
      refine x_iload hC dL_law_512 6 rfl ?_
      refine x_i2l hC dL_law_514 ?_
      refine x_lcmp hC dL_law_515 ?_
      refine x_if_eq (tgt := 521) hC dL_law_516 (by decide) (fun u606 => ?_) (fun u606 => ?_)
      · have hF := it_t u606 hF
        refine X.sub (lv' := [(0, .ref b), (1, .ref a1), (2, .ref a2), (3, .ref a3), (4, .int x4)]) [0, 1, 2, 3, 4] rfl ?_
        exact w_L_law_521 hC hX hk23 hF
      · have hF := it_f u606 hF
        refine X.sub (lv' := []) [] rfl ?_
        exact w_L_law_519 hC hX  hF
  · have hF := it_f u608 hF
    refine X.sub (lv' := []) [] rfl ?_
    exact w_L_law_502 hC hX  hF
theorem w_L_law_595 {cx : zX} {h0 : AH} (hC : Cx cx RX0 cL_law 8 8192 104096 (some .boolean) h0) {b L : Nat} {xs : Nat → Int32} (hX : zScr cx.G b L xs) {h : AH} {r : (Int32 × AH)}    (hF : B_L_law_595 h L xs   = some r) : X cx 8 (zQ cx h0 (.inl (some (.int r.1))) r.2) h 595 [] [] := by
  refine x_iconst (v := 0) hC dL_law_595 (by decide) ?_
  have e := some_e hF
  subst e
  exact x_zret (ty := .boolean) hC (bl_n (Or.inl rfl)) dL_law_596
theorem w_L_law_524 {cx : zX} {h0 : AH} (hC : Cx cx RX0 cL_law 8 8192 104096 (some .boolean) h0) {b L : Nat} {xs : Nat → Int32} (hX : zScr cx.G b L xs) {h : AH} {r : (Int32 × AH)} {kh23 : AH → Nat → Nat → Nat → Int32 → Option (Int32 × AH)} (hk23 : ∀ (h : AH) (a1 : Nat) (a2 : Nat) (a3 : Nat) (x4 : Int32), kh23 h a1 a2 a3 x4 = some r → X cx 8 (zQ cx h0 (.inl (some (.int r.1))) r.2) h 23 [(0, .ref b), (1, .ref a1), (2, .ref a2), (3, .ref a3), (4, .int x4)] []) {a1 : Nat} {a2 : Nat} {a3 : Nat} {x4 : Int32} (hF : B_L_law_524 h L xs kh23 a1 a2 a3 x4 = some r) : X cx 8 (zQ cx h0 (.inl (some (.int r.1))) r.2) h 524 [(0, .ref b), (1, .ref a1), (2, .ref a2), (3, .ref a3), (4, .int x4)] [] := by
  refine x_aload_n hC dL_law_524 1 rfl ?_
  refine x_aload_n hC dL_law_525 0 rfl ?_
  refine x_iload hC dL_law_526 4 rfl ?_
  refine x_iconst (v := 1) hC dL_law_528 (by decide) ?_
  refine x_iadd hC dL_law_529 ?_
  obtain ⟨g609, hF⟩ := gd_e hF
  refine x_sld hC hX g609 dL_law_530 ?_
  refine x_aload_n hC dL_law_531 0 rfl ?_
  refine x_iload hC dL_law_532 4 rfl ?_
  refine x_iconst (v := 2) hC dL_law_534 (by decide) ?_
  refine x_iadd hC dL_law_535 ?_
  obtain ⟨g610, hF⟩ := gd_e hF
  refine x_sld hC hX g610 dL_law_536 ?_
  refine x_aload_n hC dL_law_537 0 rfl ?_
  refine x_iload hC dL_law_538 4 rfl ?_
  refine x_iconst (v := 3) hC dL_law_540 (by decide) ?_
  refine x_iadd hC dL_law_541 ?_
  obtain ⟨g611, hF⟩ := gd_e hF
  refine x_sld hC hX g611 dL_law_542 ?_
  refine x_aload_n hC dL_law_543 0 rfl ?_
  refine x_iload hC dL_law_544 4 rfl ?_
  refine x_iconst (v := 4) hC dL_law_546 (by decide) ?_
  refine x_iadd hC dL_law_547 ?_
  obtain ⟨g612, hF⟩ := gd_e hF
  refine x_sld hC hX g612 dL_law_548 ?_
  refine x_aload_n hC dL_law_549 0 rfl ?_
  refine x_iload hC dL_law_550 4 rfl ?_
  refine x_iconst (v := 5) hC dL_law_552 (by decide) ?_
  refine x_iadd hC dL_law_553 ?_
  obtain ⟨g613, hF⟩ := gd_e hF
  refine x_sld hC hX g613 dL_law_554 ?_
  obtain ⟨g614, hF⟩ := gd_e hF
  obtain ⟨r615, e616, hF⟩ := bd_e hF
  refine xk_V (κ := 1) (As := [.int (xs (ix (x4 + 1))), .int (xs (ix (x4 + 2))), .int (xs (ix (x4 + 3))), .int (xs (ix (x4 + 4))), .int (xs (ix (x4 + 5)))]) (st := []) hC (m_X1_feed hC.fl e616) g614 rfl q403 q404 q405 q406 q97 hy_X1_feed ⟨Nat.le_of_ble_eq_true rfl, Nat.le_of_ble_eq_true rfl⟩ (Nat.le_of_ble_eq_true rfl) rfl dL_law_555 ?_
  refine x_aload_n hC dL_law_558 2 rfl ?_
  refine x_aload_n hC dL_law_559 0 rfl ?_
  refine x_iload hC dL_law_560 4 rfl ?_
  refine x_iconst (v := 1) hC dL_law_562 (by decide) ?_
  refine x_iadd hC dL_law_563 ?_
  obtain ⟨g617, hF⟩ := gd_e hF
  refine x_sld hC hX g617 dL_law_564 ?_
  refine x_aload_n hC dL_law_565 0 rfl ?_
  refine x_iload hC dL_law_566 4 rfl ?_
  refine x_iconst (v := 2) hC dL_law_568 (by decide) ?_
  refine x_iadd hC dL_law_569 ?_
  obtain ⟨g618, hF⟩ := gd_e hF
  refine x_sld hC hX g618 dL_law_570 ?_
  refine x_aload_n hC dL_law_571 0 rfl ?_
  refine x_iload hC dL_law_572 4 rfl ?_
  refine x_iconst (v := 3) hC dL_law_574 (by decide) ?_
  refine x_iadd hC dL_law_575 ?_
  obtain ⟨g619, hF⟩ := gd_e hF
  refine x_sld hC hX g619 dL_law_576 ?_
  refine x_aload_n hC dL_law_577 0 rfl ?_
  refine x_iload hC dL_law_578 4 rfl ?_
  refine x_iconst (v := 4) hC dL_law_580 (by decide) ?_
  refine x_iadd hC dL_law_581 ?_
  obtain ⟨g620, hF⟩ := gd_e hF
  refine x_sld hC hX g620 dL_law_582 ?_
  refine x_aload_n hC dL_law_583 0 rfl ?_
  refine x_iload hC dL_law_584 4 rfl ?_
  refine x_iconst (v := 5) hC dL_law_586 (by decide) ?_
  refine x_iadd hC dL_law_587 ?_
  obtain ⟨g621, hF⟩ := gd_e hF
  refine x_sld hC hX g621 dL_law_588 ?_
  obtain ⟨g622, hF⟩ := gd_e hF
  obtain ⟨r623, e624, hF⟩ := bd_e hF
  refine xk_V (κ := 8) (As := [.int (xs (ix (x4 + 1))), .int (xs (ix (x4 + 2))), .int (xs (ix (x4 + 3))), .int (xs (ix (x4 + 4))), .int (xs (ix (x4 + 5)))]) (st := [.int r615.1]) hC (m_X8_feed hC.fl e624) g622 rfl q1988 q1989 q1990 q1991 q107 hy_X8_feed ⟨Nat.le_of_ble_eq_true rfl, Nat.le_of_ble_eq_true rfl⟩ (Nat.le_of_ble_eq_true rfl) rfl dL_law_589 ?_
  refine x_icmp_eq (tgt := 2923) hC dL_law_592 (by decide) (fun u625 => ?_) (fun u625 => ?_)
  · have hF := it_t u625 hF
    exact w_L_law_2923 hC hX hk23 hF
  · have hF := it_f u625 hF
    refine X.sub (lv' := []) [] rfl ?_
    exact w_L_law_595 hC hX  hF
theorem w_L_law_662 {cx : zX} {h0 : AH} (hC : Cx cx RX0 cL_law 8 8192 104096 (some .boolean) h0) {b L : Nat} {xs : Nat → Int32} (hX : zScr cx.G b L xs) {h : AH} {r : (Int32 × AH)} {kh23 : AH → Nat → Nat → Nat → Int32 → Option (Int32 × AH)} (hk23 : ∀ (h : AH) (a1 : Nat) (a2 : Nat) (a3 : Nat) (x4 : Int32), kh23 h a1 a2 a3 x4 = some r → X cx 8 (zQ cx h0 (.inl (some (.int r.1))) r.2) h 23 [(0, .ref b), (1, .ref a1), (2, .ref a2), (3, .ref a3), (4, .int x4)] []) {a1 : Nat} {a2 : Nat} {a3 : Nat} {x4 : Int32} (hF : B_L_law_662 h L xs kh23 a1 a2 a3 x4 = some r) : X cx 8 (zQ cx h0 (.inl (some (.int r.1))) r.2) h 662 [(0, .ref b), (1, .ref a1), (2, .ref a2), (3, .ref a3), (4, .int x4)] [] := by
  refine x_goto (tgt := 2923) hC dL_law_662 (by decide) ?_
  exact w_L_law_2923 hC hX hk23 hF
theorem w_L_law_660 {cx : zX} {h0 : AH} (hC : Cx cx RX0 cL_law 8 8192 104096 (some .boolean) h0) {b L : Nat} {xs : Nat → Int32} (hX : zScr cx.G b L xs) {h : AH} {r : (Int32 × AH)}    (hF : B_L_law_660 h L xs   = some r) : X cx 8 (zQ cx h0 (.inl (some (.int r.1))) r.2) h 660 [] [] := by
  refine x_iconst (v := 0) hC dL_law_660 (by decide) ?_
  have e := some_e hF
  subst e
  exact x_zret (ty := .boolean) hC (bl_n (Or.inl rfl)) dL_law_661
theorem w_L_law_643 {cx : zX} {h0 : AH} (hC : Cx cx RX0 cL_law 8 8192 104096 (some .boolean) h0) {b L : Nat} {xs : Nat → Int32} (hX : zScr cx.G b L xs) {h : AH} {r : (Int32 × AH)}    (hF : B_L_law_643 h L xs   = some r) : X cx 8 (zQ cx h0 (.inl (some (.int r.1))) r.2) h 643 [] [] := by
  refine x_iconst (v := 0) hC dL_law_643 (by decide) ?_
  have e := some_e hF
  subst e
  exact x_zret (ty := .boolean) hC (bl_n (Or.inl rfl)) dL_law_644
theorem w_L_law_597 {cx : zX} {h0 : AH} (hC : Cx cx RX0 cL_law 8 8192 104096 (some .boolean) h0) {b L : Nat} {xs : Nat → Int32} (hX : zScr cx.G b L xs) {h : AH} {r : (Int32 × AH)} {kh23 : AH → Nat → Nat → Nat → Int32 → Option (Int32 × AH)} (hk23 : ∀ (h : AH) (a1 : Nat) (a2 : Nat) (a3 : Nat) (x4 : Int32), kh23 h a1 a2 a3 x4 = some r → X cx 8 (zQ cx h0 (.inl (some (.int r.1))) r.2) h 23 [(0, .ref b), (1, .ref a1), (2, .ref a2), (3, .ref a3), (4, .int x4)] []) {a1 : Nat} {a2 : Nat} {a3 : Nat} {x4 : Int32} (hF : B_L_law_597 h L xs kh23 a1 a2 a3 x4 = some r) : X cx 8 (zQ cx h0 (.inl (some (.int r.1))) r.2) h 597 [(0, .ref b), (1, .ref a1), (2, .ref a2), (3, .ref a3), (4, .int x4)] [] := by
  refine x_aload_n hC dL_law_597 1 rfl ?_
  refine x_aload_n hC dL_law_598 0 rfl ?_
  refine x_iload hC dL_law_599 4 rfl ?_
  refine x_iconst (v := 1) hC dL_law_601 (by decide) ?_
  refine x_iadd hC dL_law_602 ?_
  obtain ⟨g626, hF⟩ := gd_e hF
  refine x_sld hC hX g626 dL_law_603 ?_
  refine x_aload_n hC dL_law_604 0 rfl ?_
  refine x_iload hC dL_law_605 4 rfl ?_
  refine x_iconst (v := 2) hC dL_law_607 (by decide) ?_
  refine x_iadd hC dL_law_608 ?_
  obtain ⟨g627, hF⟩ := gd_e hF
  refine x_sld hC hX g627 dL_law_609 ?_
  refine x_aload_n hC dL_law_610 3 rfl ?_
  obtain ⟨r628, e629, hF⟩ := bd_e hF
  refine xk_SW (As := [.ref a1, .int (xs (ix (x4 + 1))), .int (xs (ix (x4 + 2))), .ref a3]) (st := []) hC (m_X0_rules hC.fl e629) q818 q819 q820 q96 hy_X0_rules ⟨Nat.le_of_ble_eq_true rfl, Nat.le_of_ble_eq_true rfl⟩ (Nat.le_of_ble_eq_true rfl) rfl dL_law_611 ?_
  refine x_istore (lv' := [(0, .ref b), (1, .ref a1), (2, .ref a2), (3, .ref a3), (4, .int x4), (5, .int r628.1)]) hC dL_law_614 (by decide) [1, 2, 3, 4, 5, 0] rfl ?_
  refine x_aload_n hC dL_law_616 2 rfl ?_
  refine x_aload_n hC dL_law_617 0 rfl ?_
  refine x_iload hC dL_law_618 4 rfl ?_
  refine x_iconst (v := 1) hC dL_law_620 (by decide) ?_
  refine x_iadd hC dL_law_621 ?_
  obtain ⟨g630, hF⟩ := gd_e hF
  refine x_sld hC hX g630 dL_law_622 ?_
  refine x_aload_n hC dL_law_623 0 rfl ?_
  refine x_iload hC dL_law_624 4 rfl ?_
  refine x_iconst (v := 2) hC dL_law_626 (by decide) ?_
  refine x_iadd hC dL_law_627 ?_
  obtain ⟨g631, hF⟩ := gd_e hF
  refine x_sld hC hX g631 dL_law_628 ?_
  obtain ⟨g632, hF⟩ := gd_e hF
  obtain ⟨r633, e634, hF⟩ := bd_e hF
  refine xk_V (κ := 8) (As := [.int (xs (ix (x4 + 1))), .int (xs (ix (x4 + 2)))]) (st := []) hC (m_X8_rules hC.fl e634) g632 rfl q1992 q1993 q1994 q1995 q107 hy_X8_rules ⟨Nat.le_of_ble_eq_true rfl, Nat.le_of_ble_eq_true rfl⟩ (Nat.le_of_ble_eq_true rfl) rfl dL_law_629 ?_
  refine x_istore (lv' := [(0, .ref b), (1, .ref a1), (2, .ref a2), (3, .ref a3), (4, .int x4), (5, .int r628.1), (6, .int r633.1)]) hC dL_law_632 (by decide) [1, 2, 3, 4, 5, 6, 0] rfl ?_
  refine x_aload_n hC dL_law_634 2 rfl ?_
  obtain ⟨g635, hF⟩ := gd_e hF
  obtain ⟨r636, e637, hF⟩ := bd_e hF
  refine xk_V (κ := 8) (As := []) (st := []) hC (m_X8_thrown hC.fl e637) g635 rfl q1950 q1951 q1952 q1953 q107 hy_X8_thrown ⟨Nat.le_of_ble_eq_true rfl, Nat.le_of_ble_eq_true rfl⟩ (Nat.le_of_ble_eq_true rfl) rfl dL_law_635 ?_
  refine x_iload hC dL_law_638 5 rfl ?_
  refine x_icmp_eq (tgt := 645) hC dL_law_640 (by decide) (fun u641 => ?_) (fun u641 => ?_)
  · have hF := it_t u641 hF
    refine x_iload hC dL_law_645 5 rfl ?_
    refine x_if_ne (tgt := 662) hC dL_law_647 (by decide) (fun u640 => ?_) (fun u640 => ?_)
    · have hF := it_f u640 hF
      refine X.sub (lv' := [(0, .ref b), (1, .ref a1), (2, .ref a2), (3, .ref a3), (4, .int x4)]) [0, 1, 2, 3, 4] rfl ?_
      exact w_L_law_662 hC hX hk23 hF
    · have hF := it_t u640 hF
      refine x_aload_n hC dL_law_650 3 rfl ?_
      refine x_iconst (v := 0) hC dL_law_651 (by decide) ?_
      obtain ⟨g638, hF⟩ := gd_e hF
      refine x_lald hC g638.1 g638.2 dL_law_652 ?_
      refine x_iload hC dL_law_653 6 rfl ?_
      refine x_i2l hC dL_law_655 ?_
      refine x_lcmp hC dL_law_656 ?_
      refine x_if_eq (tgt := 662) hC dL_law_657 (by decide) (fun u639 => ?_) (fun u639 => ?_)
      · have hF := it_t u639 hF
        refine X.sub (lv' := [(0, .ref b), (1, .ref a1), (2, .ref a2), (3, .ref a3), (4, .int x4)]) [0, 1, 2, 3, 4] rfl ?_
        exact w_L_law_662 hC hX hk23 hF
      · have hF := it_f u639 hF
        refine X.sub (lv' := []) [] rfl ?_
        exact w_L_law_660 hC hX  hF
  · have hF := it_f u641 hF
    refine X.sub (lv' := []) [] rfl ?_
    exact w_L_law_643 hC hX  hF
theorem w_L_law_718 {cx : zX} {h0 : AH} (hC : Cx cx RX0 cL_law 8 8192 104096 (some .boolean) h0) {b L : Nat} {xs : Nat → Int32} (hX : zScr cx.G b L xs) {h : AH} {r : (Int32 × AH)} {kh23 : AH → Nat → Nat → Nat → Int32 → Option (Int32 × AH)} (hk23 : ∀ (h : AH) (a1 : Nat) (a2 : Nat) (a3 : Nat) (x4 : Int32), kh23 h a1 a2 a3 x4 = some r → X cx 8 (zQ cx h0 (.inl (some (.int r.1))) r.2) h 23 [(0, .ref b), (1, .ref a1), (2, .ref a2), (3, .ref a3), (4, .int x4)] []) {a1 : Nat} {a2 : Nat} {a3 : Nat} {x4 : Int32} (hF : B_L_law_718 h L xs kh23 a1 a2 a3 x4 = some r) : X cx 8 (zQ cx h0 (.inl (some (.int r.1))) r.2) h 718 [(0, .ref b), (1, .ref a1), (2, .ref a2), (3, .ref a3), (4, .int x4)] [] := by
  refine x_goto (tgt := 2923) hC dL_law_718 (by decide) ?_
  exact w_L_law_2923 hC hX hk23 hF
theorem w_L_law_716 {cx : zX} {h0 : AH} (hC : Cx cx RX0 cL_law 8 8192 104096 (some .boolean) h0) {b L : Nat} {xs : Nat → Int32} (hX : zScr cx.G b L xs) {h : AH} {r : (Int32 × AH)}    (hF : B_L_law_716 h L xs   = some r) : X cx 8 (zQ cx h0 (.inl (some (.int r.1))) r.2) h 716 [] [] := by
  refine x_iconst (v := 0) hC dL_law_716 (by decide) ?_
  have e := some_e hF
  subst e
  exact x_zret (ty := .boolean) hC (bl_n (Or.inl rfl)) dL_law_717
theorem w_L_law_699 {cx : zX} {h0 : AH} (hC : Cx cx RX0 cL_law 8 8192 104096 (some .boolean) h0) {b L : Nat} {xs : Nat → Int32} (hX : zScr cx.G b L xs) {h : AH} {r : (Int32 × AH)}    (hF : B_L_law_699 h L xs   = some r) : X cx 8 (zQ cx h0 (.inl (some (.int r.1))) r.2) h 699 [] [] := by
  refine x_iconst (v := 0) hC dL_law_699 (by decide) ?_
  have e := some_e hF
  subst e
  exact x_zret (ty := .boolean) hC (bl_n (Or.inl rfl)) dL_law_700
theorem w_L_law_665 {cx : zX} {h0 : AH} (hC : Cx cx RX0 cL_law 8 8192 104096 (some .boolean) h0) {b L : Nat} {xs : Nat → Int32} (hX : zScr cx.G b L xs) {h : AH} {r : (Int32 × AH)} {kh23 : AH → Nat → Nat → Nat → Int32 → Option (Int32 × AH)} (hk23 : ∀ (h : AH) (a1 : Nat) (a2 : Nat) (a3 : Nat) (x4 : Int32), kh23 h a1 a2 a3 x4 = some r → X cx 8 (zQ cx h0 (.inl (some (.int r.1))) r.2) h 23 [(0, .ref b), (1, .ref a1), (2, .ref a2), (3, .ref a3), (4, .int x4)] []) {a1 : Nat} {a2 : Nat} {a3 : Nat} {x4 : Int32} (hF : B_L_law_665 h L xs kh23 a1 a2 a3 x4 = some r) : X cx 8 (zQ cx h0 (.inl (some (.int r.1))) r.2) h 665 [(0, .ref b), (1, .ref a1), (2, .ref a2), (3, .ref a3), (4, .int x4)] [] := by
  refine x_aload_n hC dL_law_665 1 rfl ?_
  refine x_aload_n hC dL_law_666 0 rfl ?_
  refine x_iload hC dL_law_667 4 rfl ?_
  refine x_iconst (v := 1) hC dL_law_669 (by decide) ?_
  refine x_iadd hC dL_law_670 ?_
  obtain ⟨g642, hF⟩ := gd_e hF
  refine x_sld hC hX g642 dL_law_671 ?_
  refine x_aload_n hC dL_law_672 3 rfl ?_
  obtain ⟨r643, e644, hF⟩ := bd_e hF
  refine xk_SW (As := [.ref a1, .int (xs (ix (x4 + 1))), .ref a3]) (st := []) hC (m_X0_law hC.fl e644) q1258 q1259 q1260 q96 hy_X0_law ⟨Nat.le_of_ble_eq_true rfl, Nat.le_of_ble_eq_true rfl⟩ (Nat.le_of_ble_eq_true rfl) rfl dL_law_673 ?_
  refine x_istore (lv' := [(0, .ref b), (1, .ref a1), (2, .ref a2), (3, .ref a3), (4, .int x4), (5, .int r643.1)]) hC dL_law_676 (by decide) [1, 2, 3, 4, 5, 0] rfl ?_
  refine x_aload_n hC dL_law_678 2 rfl ?_
  refine x_aload_n hC dL_law_679 0 rfl ?_
  refine x_iload hC dL_law_680 4 rfl ?_
  refine x_iconst (v := 1) hC dL_law_682 (by decide) ?_
  refine x_iadd hC dL_law_683 ?_
  obtain ⟨g645, hF⟩ := gd_e hF
  refine x_sld hC hX g645 dL_law_684 ?_
  obtain ⟨g646, hF⟩ := gd_e hF
  obtain ⟨r647, e648, hF⟩ := bd_e hF
  refine xk_V (κ := 8) (As := [.int (xs (ix (x4 + 1)))]) (st := []) hC (m_X8_law hC.fl e648) g646 rfl q2094 q2095 q2096 q2097 q107 hy_X8_law ⟨Nat.le_of_ble_eq_true rfl, Nat.le_of_ble_eq_true rfl⟩ (Nat.le_of_ble_eq_true rfl) rfl dL_law_685 ?_
  refine x_istore (lv' := [(0, .ref b), (1, .ref a1), (2, .ref a2), (3, .ref a3), (4, .int x4), (5, .int r643.1), (6, .int r647.1)]) hC dL_law_688 (by decide) [1, 2, 3, 4, 5, 6, 0] rfl ?_
  refine x_aload_n hC dL_law_690 2 rfl ?_
  obtain ⟨g649, hF⟩ := gd_e hF
  obtain ⟨r650, e651, hF⟩ := bd_e hF
  refine xk_V (κ := 8) (As := []) (st := []) hC (m_X8_thrown hC.fl e651) g649 rfl q1950 q1951 q1952 q1953 q107 hy_X8_thrown ⟨Nat.le_of_ble_eq_true rfl, Nat.le_of_ble_eq_true rfl⟩ (Nat.le_of_ble_eq_true rfl) rfl dL_law_691 ?_
  refine x_iload hC dL_law_694 5 rfl ?_
  refine x_icmp_eq (tgt := 701) hC dL_law_696 (by decide) (fun u655 => ?_) (fun u655 => ?_)
  · have hF := it_t u655 hF
    refine x_iload hC dL_law_701 5 rfl ?_
    refine x_if_ne (tgt := 718) hC dL_law_703 (by decide) (fun u654 => ?_) (fun u654 => ?_)
    · have hF := it_f u654 hF
      refine X.sub (lv' := [(0, .ref b), (1, .ref a1), (2, .ref a2), (3, .ref a3), (4, .int x4)]) [0, 1, 2, 3, 4] rfl ?_
      exact w_L_law_718 hC hX hk23 hF
    · have hF := it_t u654 hF
      refine x_aload_n hC dL_law_706 3 rfl ?_
      refine x_iconst (v := 0) hC dL_law_707 (by decide) ?_
      obtain ⟨g652, hF⟩ := gd_e hF
      refine x_lald hC g652.1 g652.2 dL_law_708 ?_
      refine x_iload hC dL_law_709 6 rfl ?_
      refine x_i2l hC dL_law_711 ?_
      refine x_lcmp hC dL_law_712 ?_
      refine x_if_eq (tgt := 718) hC dL_law_713 (by decide) (fun u653 => ?_) (fun u653 => ?_)
      · have hF := it_t u653 hF
        refine X.sub (lv' := [(0, .ref b), (1, .ref a1), (2, .ref a2), (3, .ref a3), (4, .int x4)]) [0, 1, 2, 3, 4] rfl ?_
        exact w_L_law_718 hC hX hk23 hF
      · have hF := it_f u653 hF
        refine X.sub (lv' := []) [] rfl ?_
        exact w_L_law_716 hC hX  hF
  · have hF := it_f u655 hF
    refine X.sub (lv' := []) [] rfl ?_
    exact w_L_law_699 hC hX  hF
theorem w_L_law_744 {cx : zX} {h0 : AH} (hC : Cx cx RX0 cL_law 8 8192 104096 (some .boolean) h0) {b L : Nat} {xs : Nat → Int32} (hX : zScr cx.G b L xs) {h : AH} {r : (Int32 × AH)}    (hF : B_L_law_744 h L xs   = some r) : X cx 8 (zQ cx h0 (.inl (some (.int r.1))) r.2) h 744 [] [] := by
  refine x_iconst (v := 0) hC dL_law_744 (by decide) ?_
  have e := some_e hF
  subst e
  exact x_zret (ty := .boolean) hC (bl_n (Or.inl rfl)) dL_law_745
theorem w_L_law_721 {cx : zX} {h0 : AH} (hC : Cx cx RX0 cL_law 8 8192 104096 (some .boolean) h0) {b L : Nat} {xs : Nat → Int32} (hX : zScr cx.G b L xs) {h : AH} {r : (Int32 × AH)} {kh23 : AH → Nat → Nat → Nat → Int32 → Option (Int32 × AH)} (hk23 : ∀ (h : AH) (a1 : Nat) (a2 : Nat) (a3 : Nat) (x4 : Int32), kh23 h a1 a2 a3 x4 = some r → X cx 8 (zQ cx h0 (.inl (some (.int r.1))) r.2) h 23 [(0, .ref b), (1, .ref a1), (2, .ref a2), (3, .ref a3), (4, .int x4)] []) {a1 : Nat} {a2 : Nat} {a3 : Nat} {x4 : Int32} (hF : B_L_law_721 h L xs kh23 a1 a2 a3 x4 = some r) : X cx 8 (zQ cx h0 (.inl (some (.int r.1))) r.2) h 721 [(0, .ref b), (1, .ref a1), (2, .ref a2), (3, .ref a3), (4, .int x4)] [] := by
  refine x_aload_n hC dL_law_721 1 rfl ?_
  refine x_aload_n hC dL_law_722 0 rfl ?_
  refine x_iload hC dL_law_723 4 rfl ?_
  refine x_iconst (v := 1) hC dL_law_725 (by decide) ?_
  refine x_iadd hC dL_law_726 ?_
  obtain ⟨g656, hF⟩ := gd_e hF
  refine x_sld hC hX g656 dL_law_727 ?_
  obtain ⟨g657, hF⟩ := gd_e hF
  obtain ⟨r658, e659, hF⟩ := bd_e hF
  refine xk_V (κ := 1) (As := [.int (xs (ix (x4 + 1)))]) (st := []) hC (m_X1_fault hC.fl e659) g657 rfl q411 q412 q413 q414 q97 hy_X1_fault ⟨Nat.le_of_ble_eq_true rfl, Nat.le_of_ble_eq_true rfl⟩ (Nat.le_of_ble_eq_true rfl) rfl dL_law_728 ?_
  refine x_aload_n hC dL_law_731 2 rfl ?_
  refine x_aload_n hC dL_law_732 0 rfl ?_
  refine x_iload hC dL_law_733 4 rfl ?_
  refine x_iconst (v := 1) hC dL_law_735 (by decide) ?_
  refine x_iadd hC dL_law_736 ?_
  obtain ⟨g660, hF⟩ := gd_e hF
  refine x_sld hC hX g660 dL_law_737 ?_
  obtain ⟨g661, hF⟩ := gd_e hF
  obtain ⟨r662, e663, hF⟩ := bd_e hF
  refine xk_V (κ := 8) (As := [.int (xs (ix (x4 + 1)))]) (st := [.int r658]) hC (m_X8_fault hC.fl e663) g661 rfl q2106 q2107 q2108 q2109 q107 hy_X8_fault ⟨Nat.le_of_ble_eq_true rfl, Nat.le_of_ble_eq_true rfl⟩ (Nat.le_of_ble_eq_true rfl) rfl dL_law_738 ?_
  refine x_icmp_eq (tgt := 2923) hC dL_law_741 (by decide) (fun u664 => ?_) (fun u664 => ?_)
  · have hF := it_t u664 hF
    exact w_L_law_2923 hC hX hk23 hF
  · have hF := it_f u664 hF
    refine X.sub (lv' := []) [] rfl ?_
    exact w_L_law_744 hC hX  hF
theorem w_L_law_799 {cx : zX} {h0 : AH} (hC : Cx cx RX0 cL_law 8 8192 104096 (some .boolean) h0) {b L : Nat} {xs : Nat → Int32} (hX : zScr cx.G b L xs) {h : AH} {r : (Int32 × AH)} {kh23 : AH → Nat → Nat → Nat → Int32 → Option (Int32 × AH)} (hk23 : ∀ (h : AH) (a1 : Nat) (a2 : Nat) (a3 : Nat) (x4 : Int32), kh23 h a1 a2 a3 x4 = some r → X cx 8 (zQ cx h0 (.inl (some (.int r.1))) r.2) h 23 [(0, .ref b), (1, .ref a1), (2, .ref a2), (3, .ref a3), (4, .int x4)] []) {a1 : Nat} {a2 : Nat} {a3 : Nat} {x4 : Int32} (hF : B_L_law_799 h L xs kh23 a1 a2 a3 x4 = some r) : X cx 8 (zQ cx h0 (.inl (some (.int r.1))) r.2) h 799 [(0, .ref b), (1, .ref a1), (2, .ref a2), (3, .ref a3), (4, .int x4)] [] := by
  refine x_goto (tgt := 2923) hC dL_law_799 (by decide) ?_
  exact w_L_law_2923 hC hX hk23 hF
theorem w_L_law_797 {cx : zX} {h0 : AH} (hC : Cx cx RX0 cL_law 8 8192 104096 (some .boolean) h0) {b L : Nat} {xs : Nat → Int32} (hX : zScr cx.G b L xs) {h : AH} {r : (Int32 × AH)}    (hF : B_L_law_797 h L xs   = some r) : X cx 8 (zQ cx h0 (.inl (some (.int r.1))) r.2) h 797 [] [] := by
  refine x_iconst (v := 0) hC dL_law_797 (by decide) ?_
  have e := some_e hF
  subst e
  exact x_zret (ty := .boolean) hC (bl_n (Or.inl rfl)) dL_law_798
theorem w_L_law_780 {cx : zX} {h0 : AH} (hC : Cx cx RX0 cL_law 8 8192 104096 (some .boolean) h0) {b L : Nat} {xs : Nat → Int32} (hX : zScr cx.G b L xs) {h : AH} {r : (Int32 × AH)}    (hF : B_L_law_780 h L xs   = some r) : X cx 8 (zQ cx h0 (.inl (some (.int r.1))) r.2) h 780 [] [] := by
  refine x_iconst (v := 0) hC dL_law_780 (by decide) ?_
  have e := some_e hF
  subst e
  exact x_zret (ty := .boolean) hC (bl_n (Or.inl rfl)) dL_law_781
theorem w_L_law_746 {cx : zX} {h0 : AH} (hC : Cx cx RX0 cL_law 8 8192 104096 (some .boolean) h0) {b L : Nat} {xs : Nat → Int32} (hX : zScr cx.G b L xs) {h : AH} {r : (Int32 × AH)} {kh23 : AH → Nat → Nat → Nat → Int32 → Option (Int32 × AH)} (hk23 : ∀ (h : AH) (a1 : Nat) (a2 : Nat) (a3 : Nat) (x4 : Int32), kh23 h a1 a2 a3 x4 = some r → X cx 8 (zQ cx h0 (.inl (some (.int r.1))) r.2) h 23 [(0, .ref b), (1, .ref a1), (2, .ref a2), (3, .ref a3), (4, .int x4)] []) {a1 : Nat} {a2 : Nat} {a3 : Nat} {x4 : Int32} (hF : B_L_law_746 h L xs kh23 a1 a2 a3 x4 = some r) : X cx 8 (zQ cx h0 (.inl (some (.int r.1))) r.2) h 746 [(0, .ref b), (1, .ref a1), (2, .ref a2), (3, .ref a3), (4, .int x4)] [] := by
  refine x_aload_n hC dL_law_746 1 rfl ?_
  refine x_aload_n hC dL_law_747 0 rfl ?_
  refine x_iload hC dL_law_748 4 rfl ?_
  refine x_iconst (v := 1) hC dL_law_750 (by decide) ?_
  refine x_iadd hC dL_law_751 ?_
  obtain ⟨g665, hF⟩ := gd_e hF
  refine x_sld hC hX g665 dL_law_752 ?_
  refine x_aload_n hC dL_law_753 3 rfl ?_
  obtain ⟨r666, e667, hF⟩ := bd_e hF
  refine xk_SW (As := [.ref a1, .int (xs (ix (x4 + 1))), .ref a3]) (st := []) hC (m_X0_run hC.fl e667) q1284 q1285 q1286 q96 hy_X0_run ⟨Nat.le_of_ble_eq_true rfl, Nat.le_of_ble_eq_true rfl⟩ (Nat.le_of_ble_eq_true rfl) rfl dL_law_754 ?_
  refine x_istore (lv' := [(0, .ref b), (1, .ref a1), (2, .ref a2), (3, .ref a3), (4, .int x4), (5, .int r666.1)]) hC dL_law_757 (by decide) [1, 2, 3, 4, 5, 0] rfl ?_
  refine x_aload_n hC dL_law_759 2 rfl ?_
  refine x_aload_n hC dL_law_760 0 rfl ?_
  refine x_iload hC dL_law_761 4 rfl ?_
  refine x_iconst (v := 1) hC dL_law_763 (by decide) ?_
  refine x_iadd hC dL_law_764 ?_
  obtain ⟨g668, hF⟩ := gd_e hF
  refine x_sld hC hX g668 dL_law_765 ?_
  obtain ⟨g669, hF⟩ := gd_e hF
  obtain ⟨r670, e671, hF⟩ := bd_e hF
  refine xk_V (κ := 8) (As := [.int (xs (ix (x4 + 1)))]) (st := []) hC (m_X8_run hC.fl e671) g669 rfl q2110 q2111 q2112 q2113 q107 hy_X8_run ⟨Nat.le_of_ble_eq_true rfl, Nat.le_of_ble_eq_true rfl⟩ (Nat.le_of_ble_eq_true rfl) rfl dL_law_766 ?_
  refine x_istore (lv' := [(0, .ref b), (1, .ref a1), (2, .ref a2), (3, .ref a3), (4, .int x4), (5, .int r666.1), (6, .int r670.1)]) hC dL_law_769 (by decide) [1, 2, 3, 4, 5, 6, 0] rfl ?_
  refine x_aload_n hC dL_law_771 2 rfl ?_
  obtain ⟨g672, hF⟩ := gd_e hF
  obtain ⟨r673, e674, hF⟩ := bd_e hF
  refine xk_V (κ := 8) (As := []) (st := []) hC (m_X8_thrown hC.fl e674) g672 rfl q1950 q1951 q1952 q1953 q107 hy_X8_thrown ⟨Nat.le_of_ble_eq_true rfl, Nat.le_of_ble_eq_true rfl⟩ (Nat.le_of_ble_eq_true rfl) rfl dL_law_772 ?_
  refine x_iload hC dL_law_775 5 rfl ?_
  refine x_icmp_eq (tgt := 782) hC dL_law_777 (by decide) (fun u678 => ?_) (fun u678 => ?_)
  · have hF := it_t u678 hF
    refine x_iload hC dL_law_782 5 rfl ?_
    refine x_if_ne (tgt := 799) hC dL_law_784 (by decide) (fun u677 => ?_) (fun u677 => ?_)
    · have hF := it_f u677 hF
      refine X.sub (lv' := [(0, .ref b), (1, .ref a1), (2, .ref a2), (3, .ref a3), (4, .int x4)]) [0, 1, 2, 3, 4] rfl ?_
      exact w_L_law_799 hC hX hk23 hF
    · have hF := it_t u677 hF
      refine x_aload_n hC dL_law_787 3 rfl ?_
      refine x_iconst (v := 0) hC dL_law_788 (by decide) ?_
      obtain ⟨g675, hF⟩ := gd_e hF
      refine x_lald hC g675.1 g675.2 dL_law_789 ?_
      refine x_iload hC dL_law_790 6 rfl ?_
      refine x_i2l hC dL_law_792 ?_
      refine x_lcmp hC dL_law_793 ?_
      refine x_if_eq (tgt := 799) hC dL_law_794 (by decide) (fun u676 => ?_) (fun u676 => ?_)
      · have hF := it_t u676 hF
        refine X.sub (lv' := [(0, .ref b), (1, .ref a1), (2, .ref a2), (3, .ref a3), (4, .int x4)]) [0, 1, 2, 3, 4] rfl ?_
        exact w_L_law_799 hC hX hk23 hF
      · have hF := it_f u676 hF
        refine X.sub (lv' := []) [] rfl ?_
        exact w_L_law_797 hC hX  hF
  · have hF := it_f u678 hF
    refine X.sub (lv' := []) [] rfl ?_
    exact w_L_law_780 hC hX  hF
theorem w_L_law_855 {cx : zX} {h0 : AH} (hC : Cx cx RX0 cL_law 8 8192 104096 (some .boolean) h0) {b L : Nat} {xs : Nat → Int32} (hX : zScr cx.G b L xs) {h : AH} {r : (Int32 × AH)} {kh23 : AH → Nat → Nat → Nat → Int32 → Option (Int32 × AH)} (hk23 : ∀ (h : AH) (a1 : Nat) (a2 : Nat) (a3 : Nat) (x4 : Int32), kh23 h a1 a2 a3 x4 = some r → X cx 8 (zQ cx h0 (.inl (some (.int r.1))) r.2) h 23 [(0, .ref b), (1, .ref a1), (2, .ref a2), (3, .ref a3), (4, .int x4)] []) {a1 : Nat} {a2 : Nat} {a3 : Nat} {x4 : Int32} (hF : B_L_law_855 h L xs kh23 a1 a2 a3 x4 = some r) : X cx 8 (zQ cx h0 (.inl (some (.int r.1))) r.2) h 855 [(0, .ref b), (1, .ref a1), (2, .ref a2), (3, .ref a3), (4, .int x4)] [] := by
  refine x_goto (tgt := 2923) hC dL_law_855 (by decide) ?_
  exact w_L_law_2923 hC hX hk23 hF
theorem w_L_law_853 {cx : zX} {h0 : AH} (hC : Cx cx RX0 cL_law 8 8192 104096 (some .boolean) h0) {b L : Nat} {xs : Nat → Int32} (hX : zScr cx.G b L xs) {h : AH} {r : (Int32 × AH)}    (hF : B_L_law_853 h L xs   = some r) : X cx 8 (zQ cx h0 (.inl (some (.int r.1))) r.2) h 853 [] [] := by
  refine x_iconst (v := 0) hC dL_law_853 (by decide) ?_
  have e := some_e hF
  subst e
  exact x_zret (ty := .boolean) hC (bl_n (Or.inl rfl)) dL_law_854
theorem w_L_law_836 {cx : zX} {h0 : AH} (hC : Cx cx RX0 cL_law 8 8192 104096 (some .boolean) h0) {b L : Nat} {xs : Nat → Int32} (hX : zScr cx.G b L xs) {h : AH} {r : (Int32 × AH)}    (hF : B_L_law_836 h L xs   = some r) : X cx 8 (zQ cx h0 (.inl (some (.int r.1))) r.2) h 836 [] [] := by
  refine x_iconst (v := 0) hC dL_law_836 (by decide) ?_
  have e := some_e hF
  subst e
  exact x_zret (ty := .boolean) hC (bl_n (Or.inl rfl)) dL_law_837
theorem w_L_law_802 {cx : zX} {h0 : AH} (hC : Cx cx RX0 cL_law 8 8192 104096 (some .boolean) h0) {b L : Nat} {xs : Nat → Int32} (hX : zScr cx.G b L xs) {h : AH} {r : (Int32 × AH)} {kh23 : AH → Nat → Nat → Nat → Int32 → Option (Int32 × AH)} (hk23 : ∀ (h : AH) (a1 : Nat) (a2 : Nat) (a3 : Nat) (x4 : Int32), kh23 h a1 a2 a3 x4 = some r → X cx 8 (zQ cx h0 (.inl (some (.int r.1))) r.2) h 23 [(0, .ref b), (1, .ref a1), (2, .ref a2), (3, .ref a3), (4, .int x4)] []) {a1 : Nat} {a2 : Nat} {a3 : Nat} {x4 : Int32} (hF : B_L_law_802 h L xs kh23 a1 a2 a3 x4 = some r) : X cx 8 (zQ cx h0 (.inl (some (.int r.1))) r.2) h 802 [(0, .ref b), (1, .ref a1), (2, .ref a2), (3, .ref a3), (4, .int x4)] [] := by
  refine x_aload_n hC dL_law_802 1 rfl ?_
  refine x_aload_n hC dL_law_803 0 rfl ?_
  refine x_iload hC dL_law_804 4 rfl ?_
  refine x_iconst (v := 1) hC dL_law_806 (by decide) ?_
  refine x_iadd hC dL_law_807 ?_
  obtain ⟨g679, hF⟩ := gd_e hF
  refine x_sld hC hX g679 dL_law_808 ?_
  refine x_aload_n hC dL_law_809 3 rfl ?_
  obtain ⟨r680, e681, hF⟩ := bd_e hF
  refine xk_SW (As := [.ref a1, .int (xs (ix (x4 + 1))), .ref a3]) (st := []) hC (m_X0_price hC.fl e681) q1420 q1421 q1422 q96 hy_X0_price ⟨Nat.le_of_ble_eq_true rfl, Nat.le_of_ble_eq_true rfl⟩ (Nat.le_of_ble_eq_true rfl) rfl dL_law_810 ?_
  refine x_istore (lv' := [(0, .ref b), (1, .ref a1), (2, .ref a2), (3, .ref a3), (4, .int x4), (5, .int r680.1)]) hC dL_law_813 (by decide) [1, 2, 3, 4, 5, 0] rfl ?_
  refine x_aload_n hC dL_law_815 2 rfl ?_
  refine x_aload_n hC dL_law_816 0 rfl ?_
  refine x_iload hC dL_law_817 4 rfl ?_
  refine x_iconst (v := 1) hC dL_law_819 (by decide) ?_
  refine x_iadd hC dL_law_820 ?_
  obtain ⟨g682, hF⟩ := gd_e hF
  refine x_sld hC hX g682 dL_law_821 ?_
  obtain ⟨g683, hF⟩ := gd_e hF
  obtain ⟨r684, e685, hF⟩ := bd_e hF
  refine xk_V (κ := 8) (As := [.int (xs (ix (x4 + 1)))]) (st := []) hC (m_X8_price hC.fl e685) g683 rfl q2164 q2165 q2166 q2167 q107 hy_X8_price ⟨Nat.le_of_ble_eq_true rfl, Nat.le_of_ble_eq_true rfl⟩ (Nat.le_of_ble_eq_true rfl) rfl dL_law_822 ?_
  refine x_istore (lv' := [(0, .ref b), (1, .ref a1), (2, .ref a2), (3, .ref a3), (4, .int x4), (5, .int r680.1), (6, .int r684.1)]) hC dL_law_825 (by decide) [1, 2, 3, 4, 5, 6, 0] rfl ?_
  refine x_aload_n hC dL_law_827 2 rfl ?_
  obtain ⟨g686, hF⟩ := gd_e hF
  obtain ⟨r687, e688, hF⟩ := bd_e hF
  refine xk_V (κ := 8) (As := []) (st := []) hC (m_X8_thrown hC.fl e688) g686 rfl q1950 q1951 q1952 q1953 q107 hy_X8_thrown ⟨Nat.le_of_ble_eq_true rfl, Nat.le_of_ble_eq_true rfl⟩ (Nat.le_of_ble_eq_true rfl) rfl dL_law_828 ?_
  refine x_iload hC dL_law_831 5 rfl ?_
  refine x_icmp_eq (tgt := 838) hC dL_law_833 (by decide) (fun u692 => ?_) (fun u692 => ?_)
  · have hF := it_t u692 hF
    refine x_iload hC dL_law_838 5 rfl ?_
    refine x_if_ne (tgt := 855) hC dL_law_840 (by decide) (fun u691 => ?_) (fun u691 => ?_)
    · have hF := it_f u691 hF
      refine X.sub (lv' := [(0, .ref b), (1, .ref a1), (2, .ref a2), (3, .ref a3), (4, .int x4)]) [0, 1, 2, 3, 4] rfl ?_
      exact w_L_law_855 hC hX hk23 hF
    · have hF := it_t u691 hF
      refine x_aload_n hC dL_law_843 3 rfl ?_
      refine x_iconst (v := 0) hC dL_law_844 (by decide) ?_
      obtain ⟨g689, hF⟩ := gd_e hF
      refine x_lald hC g689.1 g689.2 dL_law_845 ?_
      refine x_iload hC dL_law_846 6 rfl ?_
      refine x_i2l hC dL_law_848 ?_
      refine x_lcmp hC dL_law_849 ?_
      refine x_if_eq (tgt := 855) hC dL_law_850 (by decide) (fun u690 => ?_) (fun u690 => ?_)
      · have hF := it_t u690 hF
        refine X.sub (lv' := [(0, .ref b), (1, .ref a1), (2, .ref a2), (3, .ref a3), (4, .int x4)]) [0, 1, 2, 3, 4] rfl ?_
        exact w_L_law_855 hC hX hk23 hF
      · have hF := it_f u690 hF
        refine X.sub (lv' := []) [] rfl ?_
        exact w_L_law_853 hC hX  hF
  · have hF := it_f u692 hF
    refine X.sub (lv' := []) [] rfl ?_
    exact w_L_law_836 hC hX  hF
theorem w_L_law_923 {cx : zX} {h0 : AH} (hC : Cx cx RX0 cL_law 8 8192 104096 (some .boolean) h0) {b L : Nat} {xs : Nat → Int32} (hX : zScr cx.G b L xs) {h : AH} {r : (Int32 × AH)} {kh23 : AH → Nat → Nat → Nat → Int32 → Option (Int32 × AH)} (hk23 : ∀ (h : AH) (a1 : Nat) (a2 : Nat) (a3 : Nat) (x4 : Int32), kh23 h a1 a2 a3 x4 = some r → X cx 8 (zQ cx h0 (.inl (some (.int r.1))) r.2) h 23 [(0, .ref b), (1, .ref a1), (2, .ref a2), (3, .ref a3), (4, .int x4)] []) {a1 : Nat} {a2 : Nat} {a3 : Nat} {x4 : Int32} (hF : B_L_law_923 h L xs kh23 a1 a2 a3 x4 = some r) : X cx 8 (zQ cx h0 (.inl (some (.int r.1))) r.2) h 923 [(0, .ref b), (1, .ref a1), (2, .ref a2), (3, .ref a3), (4, .int x4)] [] := by
  refine x_goto (tgt := 2923) hC dL_law_923 (by decide) ?_
  exact w_L_law_2923 hC hX hk23 hF
theorem w_L_law_921 {cx : zX} {h0 : AH} (hC : Cx cx RX0 cL_law 8 8192 104096 (some .boolean) h0) {b L : Nat} {xs : Nat → Int32} (hX : zScr cx.G b L xs) {h : AH} {r : (Int32 × AH)}    (hF : B_L_law_921 h L xs   = some r) : X cx 8 (zQ cx h0 (.inl (some (.int r.1))) r.2) h 921 [] [] := by
  refine x_iconst (v := 0) hC dL_law_921 (by decide) ?_
  have e := some_e hF
  subst e
  exact x_zret (ty := .boolean) hC (bl_n (Or.inl rfl)) dL_law_922
theorem w_L_law_904 {cx : zX} {h0 : AH} (hC : Cx cx RX0 cL_law 8 8192 104096 (some .boolean) h0) {b L : Nat} {xs : Nat → Int32} (hX : zScr cx.G b L xs) {h : AH} {r : (Int32 × AH)}    (hF : B_L_law_904 h L xs   = some r) : X cx 8 (zQ cx h0 (.inl (some (.int r.1))) r.2) h 904 [] [] := by
  refine x_iconst (v := 0) hC dL_law_904 (by decide) ?_
  have e := some_e hF
  subst e
  exact x_zret (ty := .boolean) hC (bl_n (Or.inl rfl)) dL_law_905
theorem w_L_law_858 {cx : zX} {h0 : AH} (hC : Cx cx RX0 cL_law 8 8192 104096 (some .boolean) h0) {b L : Nat} {xs : Nat → Int32} (hX : zScr cx.G b L xs) {h : AH} {r : (Int32 × AH)} {kh23 : AH → Nat → Nat → Nat → Int32 → Option (Int32 × AH)} (hk23 : ∀ (h : AH) (a1 : Nat) (a2 : Nat) (a3 : Nat) (x4 : Int32), kh23 h a1 a2 a3 x4 = some r → X cx 8 (zQ cx h0 (.inl (some (.int r.1))) r.2) h 23 [(0, .ref b), (1, .ref a1), (2, .ref a2), (3, .ref a3), (4, .int x4)] []) {a1 : Nat} {a2 : Nat} {a3 : Nat} {x4 : Int32} (hF : B_L_law_858 h L xs kh23 a1 a2 a3 x4 = some r) : X cx 8 (zQ cx h0 (.inl (some (.int r.1))) r.2) h 858 [(0, .ref b), (1, .ref a1), (2, .ref a2), (3, .ref a3), (4, .int x4)] [] := by
  refine x_aload_n hC dL_law_858 1 rfl ?_
  refine x_aload_n hC dL_law_859 0 rfl ?_
  refine x_iload hC dL_law_860 4 rfl ?_
  refine x_iconst (v := 1) hC dL_law_862 (by decide) ?_
  refine x_iadd hC dL_law_863 ?_
  obtain ⟨g693, hF⟩ := gd_e hF
  refine x_sld hC hX g693 dL_law_864 ?_
  refine x_aload_n hC dL_law_865 0 rfl ?_
  refine x_iload hC dL_law_866 4 rfl ?_
  refine x_iconst (v := 2) hC dL_law_868 (by decide) ?_
  refine x_iadd hC dL_law_869 ?_
  obtain ⟨g694, hF⟩ := gd_e hF
  refine x_sld hC hX g694 dL_law_870 ?_
  refine x_aload_n hC dL_law_871 3 rfl ?_
  obtain ⟨r695, e696, hF⟩ := bd_e hF
  refine xk_SW (As := [.ref a1, .int (xs (ix (x4 + 1))), .int (xs (ix (x4 + 2))), .ref a3]) (st := []) hC (m_X0_board hC.fl e696) q1427 q1428 q1429 q96 hy_X0_board ⟨Nat.le_of_ble_eq_true rfl, Nat.le_of_ble_eq_true rfl⟩ (Nat.le_of_ble_eq_true rfl) rfl dL_law_872 ?_
  refine x_istore (lv' := [(0, .ref b), (1, .ref a1), (2, .ref a2), (3, .ref a3), (4, .int x4), (5, .int r695.1)]) hC dL_law_875 (by decide) [1, 2, 3, 4, 5, 0] rfl ?_
  refine x_aload_n hC dL_law_877 2 rfl ?_
  refine x_aload_n hC dL_law_878 0 rfl ?_
  refine x_iload hC dL_law_879 4 rfl ?_
  refine x_iconst (v := 1) hC dL_law_881 (by decide) ?_
  refine x_iadd hC dL_law_882 ?_
  obtain ⟨g697, hF⟩ := gd_e hF
  refine x_sld hC hX g697 dL_law_883 ?_
  refine x_aload_n hC dL_law_884 0 rfl ?_
  refine x_iload hC dL_law_885 4 rfl ?_
  refine x_iconst (v := 2) hC dL_law_887 (by decide) ?_
  refine x_iadd hC dL_law_888 ?_
  obtain ⟨g698, hF⟩ := gd_e hF
  refine x_sld hC hX g698 dL_law_889 ?_
  obtain ⟨g699, hF⟩ := gd_e hF
  obtain ⟨r700, e701, hF⟩ := bd_e hF
  refine xk_V (κ := 8) (As := [.int (xs (ix (x4 + 1))), .int (xs (ix (x4 + 2)))]) (st := []) hC (m_X8_board hC.fl e701) g699 rfl q2168 q2169 q2170 q2171 q107 hy_X8_board ⟨Nat.le_of_ble_eq_true rfl, Nat.le_of_ble_eq_true rfl⟩ (Nat.le_of_ble_eq_true rfl) rfl dL_law_890 ?_
  refine x_istore (lv' := [(0, .ref b), (1, .ref a1), (2, .ref a2), (3, .ref a3), (4, .int x4), (5, .int r695.1), (6, .int r700.1)]) hC dL_law_893 (by decide) [1, 2, 3, 4, 5, 6, 0] rfl ?_
  refine x_aload_n hC dL_law_895 2 rfl ?_
  obtain ⟨g702, hF⟩ := gd_e hF
  obtain ⟨r703, e704, hF⟩ := bd_e hF
  refine xk_V (κ := 8) (As := []) (st := []) hC (m_X8_thrown hC.fl e704) g702 rfl q1950 q1951 q1952 q1953 q107 hy_X8_thrown ⟨Nat.le_of_ble_eq_true rfl, Nat.le_of_ble_eq_true rfl⟩ (Nat.le_of_ble_eq_true rfl) rfl dL_law_896 ?_
  refine x_iload hC dL_law_899 5 rfl ?_
  refine x_icmp_eq (tgt := 906) hC dL_law_901 (by decide) (fun u708 => ?_) (fun u708 => ?_)
  · have hF := it_t u708 hF
    refine x_iload hC dL_law_906 5 rfl ?_
    refine x_if_ne (tgt := 923) hC dL_law_908 (by decide) (fun u707 => ?_) (fun u707 => ?_)
    · have hF := it_f u707 hF
      refine X.sub (lv' := [(0, .ref b), (1, .ref a1), (2, .ref a2), (3, .ref a3), (4, .int x4)]) [0, 1, 2, 3, 4] rfl ?_
      exact w_L_law_923 hC hX hk23 hF
    · have hF := it_t u707 hF
      refine x_aload_n hC dL_law_911 3 rfl ?_
      refine x_iconst (v := 0) hC dL_law_912 (by decide) ?_
      obtain ⟨g705, hF⟩ := gd_e hF
      refine x_lald hC g705.1 g705.2 dL_law_913 ?_
      refine x_iload hC dL_law_914 6 rfl ?_
      refine x_i2l hC dL_law_916 ?_
      refine x_lcmp hC dL_law_917 ?_
      refine x_if_eq (tgt := 923) hC dL_law_918 (by decide) (fun u706 => ?_) (fun u706 => ?_)
      · have hF := it_t u706 hF
        refine X.sub (lv' := [(0, .ref b), (1, .ref a1), (2, .ref a2), (3, .ref a3), (4, .int x4)]) [0, 1, 2, 3, 4] rfl ?_
        exact w_L_law_923 hC hX hk23 hF
      · have hF := it_f u706 hF
        refine X.sub (lv' := []) [] rfl ?_
        exact w_L_law_921 hC hX  hF
  · have hF := it_f u708 hF
    refine X.sub (lv' := []) [] rfl ?_
    exact w_L_law_904 hC hX  hF
theorem w_L_law_979 {cx : zX} {h0 : AH} (hC : Cx cx RX0 cL_law 8 8192 104096 (some .boolean) h0) {b L : Nat} {xs : Nat → Int32} (hX : zScr cx.G b L xs) {h : AH} {r : (Int32 × AH)} {kh23 : AH → Nat → Nat → Nat → Int32 → Option (Int32 × AH)} (hk23 : ∀ (h : AH) (a1 : Nat) (a2 : Nat) (a3 : Nat) (x4 : Int32), kh23 h a1 a2 a3 x4 = some r → X cx 8 (zQ cx h0 (.inl (some (.int r.1))) r.2) h 23 [(0, .ref b), (1, .ref a1), (2, .ref a2), (3, .ref a3), (4, .int x4)] []) {a1 : Nat} {a2 : Nat} {a3 : Nat} {x4 : Int32} (hF : B_L_law_979 h L xs kh23 a1 a2 a3 x4 = some r) : X cx 8 (zQ cx h0 (.inl (some (.int r.1))) r.2) h 979 [(0, .ref b), (1, .ref a1), (2, .ref a2), (3, .ref a3), (4, .int x4)] [] := by
  refine x_goto (tgt := 2923) hC dL_law_979 (by decide) ?_
  exact w_L_law_2923 hC hX hk23 hF
theorem w_L_law_977 {cx : zX} {h0 : AH} (hC : Cx cx RX0 cL_law 8 8192 104096 (some .boolean) h0) {b L : Nat} {xs : Nat → Int32} (hX : zScr cx.G b L xs) {h : AH} {r : (Int32 × AH)}    (hF : B_L_law_977 h L xs   = some r) : X cx 8 (zQ cx h0 (.inl (some (.int r.1))) r.2) h 977 [] [] := by
  refine x_iconst (v := 0) hC dL_law_977 (by decide) ?_
  have e := some_e hF
  subst e
  exact x_zret (ty := .boolean) hC (bl_n (Or.inl rfl)) dL_law_978
theorem w_L_law_960 {cx : zX} {h0 : AH} (hC : Cx cx RX0 cL_law 8 8192 104096 (some .boolean) h0) {b L : Nat} {xs : Nat → Int32} (hX : zScr cx.G b L xs) {h : AH} {r : (Int32 × AH)}    (hF : B_L_law_960 h L xs   = some r) : X cx 8 (zQ cx h0 (.inl (some (.int r.1))) r.2) h 960 [] [] := by
  refine x_iconst (v := 0) hC dL_law_960 (by decide) ?_
  have e := some_e hF
  subst e
  exact x_zret (ty := .boolean) hC (bl_n (Or.inl rfl)) dL_law_961
theorem w_L_law_926 {cx : zX} {h0 : AH} (hC : Cx cx RX0 cL_law 8 8192 104096 (some .boolean) h0) {b L : Nat} {xs : Nat → Int32} (hX : zScr cx.G b L xs) {h : AH} {r : (Int32 × AH)} {kh23 : AH → Nat → Nat → Nat → Int32 → Option (Int32 × AH)} (hk23 : ∀ (h : AH) (a1 : Nat) (a2 : Nat) (a3 : Nat) (x4 : Int32), kh23 h a1 a2 a3 x4 = some r → X cx 8 (zQ cx h0 (.inl (some (.int r.1))) r.2) h 23 [(0, .ref b), (1, .ref a1), (2, .ref a2), (3, .ref a3), (4, .int x4)] []) {a1 : Nat} {a2 : Nat} {a3 : Nat} {x4 : Int32} (hF : B_L_law_926 h L xs kh23 a1 a2 a3 x4 = some r) : X cx 8 (zQ cx h0 (.inl (some (.int r.1))) r.2) h 926 [(0, .ref b), (1, .ref a1), (2, .ref a2), (3, .ref a3), (4, .int x4)] [] := by
  refine x_aload_n hC dL_law_926 1 rfl ?_
  refine x_aload_n hC dL_law_927 0 rfl ?_
  refine x_iload hC dL_law_928 4 rfl ?_
  refine x_iconst (v := 1) hC dL_law_930 (by decide) ?_
  refine x_iadd hC dL_law_931 ?_
  obtain ⟨g709, hF⟩ := gd_e hF
  refine x_sld hC hX g709 dL_law_932 ?_
  refine x_aload_n hC dL_law_933 3 rfl ?_
  obtain ⟨r710, e711, hF⟩ := bd_e hF
  refine xk_SW (As := [.ref a1, .int (xs (ix (x4 + 1))), .ref a3]) (st := []) hC (m_X0_would hC.fl e711) q1434 q1435 q1436 q96 hy_X0_would ⟨Nat.le_of_ble_eq_true rfl, Nat.le_of_ble_eq_true rfl⟩ (Nat.le_of_ble_eq_true rfl) rfl dL_law_934 ?_
  refine x_istore (lv' := [(0, .ref b), (1, .ref a1), (2, .ref a2), (3, .ref a3), (4, .int x4), (5, .int r710.1)]) hC dL_law_937 (by decide) [1, 2, 3, 4, 5, 0] rfl ?_
  refine x_aload_n hC dL_law_939 2 rfl ?_
  refine x_aload_n hC dL_law_940 0 rfl ?_
  refine x_iload hC dL_law_941 4 rfl ?_
  refine x_iconst (v := 1) hC dL_law_943 (by decide) ?_
  refine x_iadd hC dL_law_944 ?_
  obtain ⟨g712, hF⟩ := gd_e hF
  refine x_sld hC hX g712 dL_law_945 ?_
  obtain ⟨g713, hF⟩ := gd_e hF
  obtain ⟨r714, e715, hF⟩ := bd_e hF
  refine xk_V (κ := 8) (As := [.int (xs (ix (x4 + 1)))]) (st := []) hC (m_X8_would hC.fl e715) g713 rfl q2180 q2181 q2182 q2183 q107 hy_X8_would ⟨Nat.le_of_ble_eq_true rfl, Nat.le_of_ble_eq_true rfl⟩ (Nat.le_of_ble_eq_true rfl) rfl dL_law_946 ?_
  refine x_istore (lv' := [(0, .ref b), (1, .ref a1), (2, .ref a2), (3, .ref a3), (4, .int x4), (5, .int r710.1), (6, .int r714.1)]) hC dL_law_949 (by decide) [1, 2, 3, 4, 5, 6, 0] rfl ?_
  refine x_aload_n hC dL_law_951 2 rfl ?_
  obtain ⟨g716, hF⟩ := gd_e hF
  obtain ⟨r717, e718, hF⟩ := bd_e hF
  refine xk_V (κ := 8) (As := []) (st := []) hC (m_X8_thrown hC.fl e718) g716 rfl q1950 q1951 q1952 q1953 q107 hy_X8_thrown ⟨Nat.le_of_ble_eq_true rfl, Nat.le_of_ble_eq_true rfl⟩ (Nat.le_of_ble_eq_true rfl) rfl dL_law_952 ?_
  refine x_iload hC dL_law_955 5 rfl ?_
  refine x_icmp_eq (tgt := 962) hC dL_law_957 (by decide) (fun u722 => ?_) (fun u722 => ?_)
  · have hF := it_t u722 hF
    refine x_iload hC dL_law_962 5 rfl ?_
    refine x_if_ne (tgt := 979) hC dL_law_964 (by decide) (fun u721 => ?_) (fun u721 => ?_)
    · have hF := it_f u721 hF
      refine X.sub (lv' := [(0, .ref b), (1, .ref a1), (2, .ref a2), (3, .ref a3), (4, .int x4)]) [0, 1, 2, 3, 4] rfl ?_
      exact w_L_law_979 hC hX hk23 hF
    · have hF := it_t u721 hF
      refine x_aload_n hC dL_law_967 3 rfl ?_
      refine x_iconst (v := 0) hC dL_law_968 (by decide) ?_
      obtain ⟨g719, hF⟩ := gd_e hF
      refine x_lald hC g719.1 g719.2 dL_law_969 ?_
      refine x_iload hC dL_law_970 6 rfl ?_
      refine x_i2l hC dL_law_972 ?_
      refine x_lcmp hC dL_law_973 ?_
      refine x_if_eq (tgt := 979) hC dL_law_974 (by decide) (fun u720 => ?_) (fun u720 => ?_)
      · have hF := it_t u720 hF
        refine X.sub (lv' := [(0, .ref b), (1, .ref a1), (2, .ref a2), (3, .ref a3), (4, .int x4)]) [0, 1, 2, 3, 4] rfl ?_
        exact w_L_law_979 hC hX hk23 hF
      · have hF := it_f u720 hF
        refine X.sub (lv' := []) [] rfl ?_
        exact w_L_law_977 hC hX  hF
  · have hF := it_f u722 hF
    refine X.sub (lv' := []) [] rfl ?_
    exact w_L_law_960 hC hX  hF
theorem w_L_law_1046 {cx : zX} {h0 : AH} (hC : Cx cx RX0 cL_law 8 8192 104096 (some .boolean) h0) {b L : Nat} {xs : Nat → Int32} (hX : zScr cx.G b L xs) {h : AH} {r : (Int32 × AH)} {kh23 : AH → Nat → Nat → Nat → Int32 → Option (Int32 × AH)} (hk23 : ∀ (h : AH) (a1 : Nat) (a2 : Nat) (a3 : Nat) (x4 : Int32), kh23 h a1 a2 a3 x4 = some r → X cx 8 (zQ cx h0 (.inl (some (.int r.1))) r.2) h 23 [(0, .ref b), (1, .ref a1), (2, .ref a2), (3, .ref a3), (4, .int x4)] []) {a1 : Nat} {a2 : Nat} {a3 : Nat} {x4 : Int32} (hF : B_L_law_1046 h L xs kh23 a1 a2 a3 x4 = some r) : X cx 8 (zQ cx h0 (.inl (some (.int r.1))) r.2) h 1046 [(0, .ref b), (1, .ref a1), (2, .ref a2), (3, .ref a3), (4, .int x4)] [] := by
  refine x_goto (tgt := 2923) hC dL_law_1046 (by decide) ?_
  exact w_L_law_2923 hC hX hk23 hF
theorem w_L_law_1044 {cx : zX} {h0 : AH} (hC : Cx cx RX0 cL_law 8 8192 104096 (some .boolean) h0) {b L : Nat} {xs : Nat → Int32} (hX : zScr cx.G b L xs) {h : AH} {r : (Int32 × AH)}    (hF : B_L_law_1044 h L xs   = some r) : X cx 8 (zQ cx h0 (.inl (some (.int r.1))) r.2) h 1044 [] [] := by
  refine x_iconst (v := 0) hC dL_law_1044 (by decide) ?_
  have e := some_e hF
  subst e
  exact x_zret (ty := .boolean) hC (bl_n (Or.inl rfl)) dL_law_1045
theorem w_L_law_1028 {cx : zX} {h0 : AH} (hC : Cx cx RX0 cL_law 8 8192 104096 (some .boolean) h0) {b L : Nat} {xs : Nat → Int32} (hX : zScr cx.G b L xs) {h : AH} {r : (Int32 × AH)}    (hF : B_L_law_1028 h L xs   = some r) : X cx 8 (zQ cx h0 (.inl (some (.int r.1))) r.2) h 1028 [] [] := by
  refine x_iconst (v := 0) hC dL_law_1028 (by decide) ?_
  have e := some_e hF
  subst e
  exact x_zret (ty := .boolean) hC (bl_n (Or.inl rfl)) dL_law_1029
theorem w_L_law_982 {cx : zX} {h0 : AH} (hC : Cx cx RX0 cL_law 8 8192 104096 (some .boolean) h0) {b L : Nat} {xs : Nat → Int32} (hX : zScr cx.G b L xs) {h : AH} {r : (Int32 × AH)} {kh23 : AH → Nat → Nat → Nat → Int32 → Option (Int32 × AH)} (hk23 : ∀ (h : AH) (a1 : Nat) (a2 : Nat) (a3 : Nat) (x4 : Int32), kh23 h a1 a2 a3 x4 = some r → X cx 8 (zQ cx h0 (.inl (some (.int r.1))) r.2) h 23 [(0, .ref b), (1, .ref a1), (2, .ref a2), (3, .ref a3), (4, .int x4)] []) {a1 : Nat} {a2 : Nat} {a3 : Nat} {x4 : Int32} (hF : B_L_law_982 h L xs kh23 a1 a2 a3 x4 = some r) : X cx 8 (zQ cx h0 (.inl (some (.int r.1))) r.2) h 982 [(0, .ref b), (1, .ref a1), (2, .ref a2), (3, .ref a3), (4, .int x4)] [] := by
  refine x_aload_n hC dL_law_982 1 rfl ?_
  refine x_aload_n hC dL_law_983 0 rfl ?_
  refine x_iload hC dL_law_984 4 rfl ?_
  refine x_iconst (v := 1) hC dL_law_986 (by decide) ?_
  refine x_iadd hC dL_law_987 ?_
  obtain ⟨g723, hF⟩ := gd_e hF
  refine x_sld hC hX g723 dL_law_988 ?_
  refine x_aload_n hC dL_law_989 0 rfl ?_
  refine x_iload hC dL_law_990 4 rfl ?_
  refine x_iconst (v := 2) hC dL_law_992 (by decide) ?_
  refine x_iadd hC dL_law_993 ?_
  obtain ⟨g724, hF⟩ := gd_e hF
  refine x_sld hC hX g724 dL_law_994 ?_
  refine x_aload_n hC dL_law_995 3 rfl ?_
  obtain ⟨r725, e726, hF⟩ := bd_e hF
  refine xk_SW (As := [.ref a1, .int (xs (ix (x4 + 1))), .int (xs (ix (x4 + 2))), .ref a3]) (st := []) hC (m_X0_of hC.fl e726) q1441 q1442 q1443 q96 hy_X0_of ⟨Nat.le_of_ble_eq_true rfl, Nat.le_of_ble_eq_true rfl⟩ (Nat.le_of_ble_eq_true rfl) rfl dL_law_996 ?_
  refine x_istore (lv' := [(0, .ref b), (1, .ref a1), (2, .ref a2), (3, .ref a3), (4, .int x4), (5, .int r725.1)]) hC dL_law_999 (by decide) [1, 2, 3, 4, 5, 0] rfl ?_
  refine x_aload_n hC dL_law_1001 2 rfl ?_
  refine x_aload_n hC dL_law_1002 0 rfl ?_
  refine x_iload hC dL_law_1003 4 rfl ?_
  refine x_iconst (v := 1) hC dL_law_1005 (by decide) ?_
  refine x_iadd hC dL_law_1006 ?_
  obtain ⟨g727, hF⟩ := gd_e hF
  refine x_sld hC hX g727 dL_law_1007 ?_
  refine x_aload_n hC dL_law_1008 0 rfl ?_
  refine x_iload hC dL_law_1009 4 rfl ?_
  refine x_iconst (v := 2) hC dL_law_1011 (by decide) ?_
  refine x_iadd hC dL_law_1012 ?_
  obtain ⟨g728, hF⟩ := gd_e hF
  refine x_sld hC hX g728 dL_law_1013 ?_
  obtain ⟨g729, hF⟩ := gd_e hF
  obtain ⟨r730, e731, hF⟩ := bd_e hF
  refine xk_V (κ := 8) (As := [.int (xs (ix (x4 + 1))), .int (xs (ix (x4 + 2)))]) (st := []) hC (m_X8_of hC.fl e731) g729 rfl q2184 q2185 q2186 q2187 q107 hy_X8_of ⟨Nat.le_of_ble_eq_true rfl, Nat.le_of_ble_eq_true rfl⟩ (Nat.le_of_ble_eq_true rfl) rfl dL_law_1014 ?_
  refine x_lstore (lv' := [(0, .ref b), (1, .ref a1), (2, .ref a2), (3, .ref a3), (4, .int x4), (5, .int r725.1), (6, .long r730.1)]) hC dL_law_1017 (by decide) [1, 2, 3, 4, 5, 6, 0] rfl ?_
  refine x_aload_n hC dL_law_1019 2 rfl ?_
  obtain ⟨g732, hF⟩ := gd_e hF
  obtain ⟨r733, e734, hF⟩ := bd_e hF
  refine xk_V (κ := 8) (As := []) (st := []) hC (m_X8_thrown hC.fl e734) g732 rfl q1950 q1951 q1952 q1953 q107 hy_X8_thrown ⟨Nat.le_of_ble_eq_true rfl, Nat.le_of_ble_eq_true rfl⟩ (Nat.le_of_ble_eq_true rfl) rfl dL_law_1020 ?_
  refine x_iload hC dL_law_1023 5 rfl ?_
  refine x_icmp_eq (tgt := 1030) hC dL_law_1025 (by decide) (fun u738 => ?_) (fun u738 => ?_)
  · have hF := it_t u738 hF
    refine x_iload hC dL_law_1030 5 rfl ?_
    refine x_if_ne (tgt := 1046) hC dL_law_1032 (by decide) (fun u737 => ?_) (fun u737 => ?_)
    · have hF := it_f u737 hF
      refine X.sub (lv' := [(0, .ref b), (1, .ref a1), (2, .ref a2), (3, .ref a3), (4, .int x4)]) [0, 1, 2, 3, 4] rfl ?_
      exact w_L_law_1046 hC hX hk23 hF
    · have hF := it_t u737 hF
      refine x_aload_n hC dL_law_1035 3 rfl ?_
      refine x_iconst (v := 0) hC dL_law_1036 (by decide) ?_
      obtain ⟨g735, hF⟩ := gd_e hF
      refine x_lald hC g735.1 g735.2 dL_law_1037 ?_
      refine x_lload hC dL_law_1038 6 rfl ?_
      refine x_lcmp hC dL_law_1040 ?_
      refine x_if_eq (tgt := 1046) hC dL_law_1041 (by decide) (fun u736 => ?_) (fun u736 => ?_)
      · have hF := it_t u736 hF
        refine X.sub (lv' := [(0, .ref b), (1, .ref a1), (2, .ref a2), (3, .ref a3), (4, .int x4)]) [0, 1, 2, 3, 4] rfl ?_
        exact w_L_law_1046 hC hX hk23 hF
      · have hF := it_f u736 hF
        refine X.sub (lv' := []) [] rfl ?_
        exact w_L_law_1044 hC hX  hF
  · have hF := it_f u738 hF
    refine X.sub (lv' := []) [] rfl ?_
    exact w_L_law_1028 hC hX  hF
theorem w_L_law_1102 {cx : zX} {h0 : AH} (hC : Cx cx RX0 cL_law 8 8192 104096 (some .boolean) h0) {b L : Nat} {xs : Nat → Int32} (hX : zScr cx.G b L xs) {h : AH} {r : (Int32 × AH)} {kh23 : AH → Nat → Nat → Nat → Int32 → Option (Int32 × AH)} (hk23 : ∀ (h : AH) (a1 : Nat) (a2 : Nat) (a3 : Nat) (x4 : Int32), kh23 h a1 a2 a3 x4 = some r → X cx 8 (zQ cx h0 (.inl (some (.int r.1))) r.2) h 23 [(0, .ref b), (1, .ref a1), (2, .ref a2), (3, .ref a3), (4, .int x4)] []) {a1 : Nat} {a2 : Nat} {a3 : Nat} {x4 : Int32} (hF : B_L_law_1102 h L xs kh23 a1 a2 a3 x4 = some r) : X cx 8 (zQ cx h0 (.inl (some (.int r.1))) r.2) h 1102 [(0, .ref b), (1, .ref a1), (2, .ref a2), (3, .ref a3), (4, .int x4)] [] := by
  refine x_goto (tgt := 2923) hC dL_law_1102 (by decide) ?_
  exact w_L_law_2923 hC hX hk23 hF
theorem w_L_law_1100 {cx : zX} {h0 : AH} (hC : Cx cx RX0 cL_law 8 8192 104096 (some .boolean) h0) {b L : Nat} {xs : Nat → Int32} (hX : zScr cx.G b L xs) {h : AH} {r : (Int32 × AH)}    (hF : B_L_law_1100 h L xs   = some r) : X cx 8 (zQ cx h0 (.inl (some (.int r.1))) r.2) h 1100 [] [] := by
  refine x_iconst (v := 0) hC dL_law_1100 (by decide) ?_
  have e := some_e hF
  subst e
  exact x_zret (ty := .boolean) hC (bl_n (Or.inl rfl)) dL_law_1101
theorem w_L_law_1083 {cx : zX} {h0 : AH} (hC : Cx cx RX0 cL_law 8 8192 104096 (some .boolean) h0) {b L : Nat} {xs : Nat → Int32} (hX : zScr cx.G b L xs) {h : AH} {r : (Int32 × AH)}    (hF : B_L_law_1083 h L xs   = some r) : X cx 8 (zQ cx h0 (.inl (some (.int r.1))) r.2) h 1083 [] [] := by
  refine x_iconst (v := 0) hC dL_law_1083 (by decide) ?_
  have e := some_e hF
  subst e
  exact x_zret (ty := .boolean) hC (bl_n (Or.inl rfl)) dL_law_1084
theorem w_L_law_1049 {cx : zX} {h0 : AH} (hC : Cx cx RX0 cL_law 8 8192 104096 (some .boolean) h0) {b L : Nat} {xs : Nat → Int32} (hX : zScr cx.G b L xs) {h : AH} {r : (Int32 × AH)} {kh23 : AH → Nat → Nat → Nat → Int32 → Option (Int32 × AH)} (hk23 : ∀ (h : AH) (a1 : Nat) (a2 : Nat) (a3 : Nat) (x4 : Int32), kh23 h a1 a2 a3 x4 = some r → X cx 8 (zQ cx h0 (.inl (some (.int r.1))) r.2) h 23 [(0, .ref b), (1, .ref a1), (2, .ref a2), (3, .ref a3), (4, .int x4)] []) {a1 : Nat} {a2 : Nat} {a3 : Nat} {x4 : Int32} (hF : B_L_law_1049 h L xs kh23 a1 a2 a3 x4 = some r) : X cx 8 (zQ cx h0 (.inl (some (.int r.1))) r.2) h 1049 [(0, .ref b), (1, .ref a1), (2, .ref a2), (3, .ref a3), (4, .int x4)] [] := by
  refine x_aload_n hC dL_law_1049 1 rfl ?_
  refine x_aload_n hC dL_law_1050 0 rfl ?_
  refine x_iload hC dL_law_1051 4 rfl ?_
  refine x_iconst (v := 1) hC dL_law_1053 (by decide) ?_
  refine x_iadd hC dL_law_1054 ?_
  obtain ⟨g739, hF⟩ := gd_e hF
  refine x_sld hC hX g739 dL_law_1055 ?_
  refine x_aload_n hC dL_law_1056 3 rfl ?_
  obtain ⟨r740, e741, hF⟩ := bd_e hF
  refine xk_SW (As := [.ref a1, .int (xs (ix (x4 + 1))), .ref a3]) (st := []) hC (m_X0_fills hC.fl e741) q1450 q1451 q1452 q96 hy_X0_fills ⟨Nat.le_of_ble_eq_true rfl, Nat.le_of_ble_eq_true rfl⟩ (Nat.le_of_ble_eq_true rfl) rfl dL_law_1057 ?_
  refine x_istore (lv' := [(0, .ref b), (1, .ref a1), (2, .ref a2), (3, .ref a3), (4, .int x4), (5, .int r740.1)]) hC dL_law_1060 (by decide) [1, 2, 3, 4, 5, 0] rfl ?_
  refine x_aload_n hC dL_law_1062 2 rfl ?_
  refine x_aload_n hC dL_law_1063 0 rfl ?_
  refine x_iload hC dL_law_1064 4 rfl ?_
  refine x_iconst (v := 1) hC dL_law_1066 (by decide) ?_
  refine x_iadd hC dL_law_1067 ?_
  obtain ⟨g742, hF⟩ := gd_e hF
  refine x_sld hC hX g742 dL_law_1068 ?_
  obtain ⟨g743, hF⟩ := gd_e hF
  obtain ⟨r744, e745, hF⟩ := bd_e hF
  refine xk_V (κ := 8) (As := [.int (xs (ix (x4 + 1)))]) (st := []) hC (m_X8_fills hC.fl e745) g743 rfl q2189 q2190 q2191 q2192 q107 hy_X8_fills ⟨Nat.le_of_ble_eq_true rfl, Nat.le_of_ble_eq_true rfl⟩ (Nat.le_of_ble_eq_true rfl) rfl dL_law_1069 ?_
  refine x_istore (lv' := [(0, .ref b), (1, .ref a1), (2, .ref a2), (3, .ref a3), (4, .int x4), (5, .int r740.1), (6, .int r744.1)]) hC dL_law_1072 (by decide) [1, 2, 3, 4, 5, 6, 0] rfl ?_
  refine x_aload_n hC dL_law_1074 2 rfl ?_
  obtain ⟨g746, hF⟩ := gd_e hF
  obtain ⟨r747, e748, hF⟩ := bd_e hF
  refine xk_V (κ := 8) (As := []) (st := []) hC (m_X8_thrown hC.fl e748) g746 rfl q1950 q1951 q1952 q1953 q107 hy_X8_thrown ⟨Nat.le_of_ble_eq_true rfl, Nat.le_of_ble_eq_true rfl⟩ (Nat.le_of_ble_eq_true rfl) rfl dL_law_1075 ?_
  refine x_iload hC dL_law_1078 5 rfl ?_
  refine x_icmp_eq (tgt := 1085) hC dL_law_1080 (by decide) (fun u752 => ?_) (fun u752 => ?_)
  · have hF := it_t u752 hF
    refine x_iload hC dL_law_1085 5 rfl ?_
    refine x_if_ne (tgt := 1102) hC dL_law_1087 (by decide) (fun u751 => ?_) (fun u751 => ?_)
    · have hF := it_f u751 hF
      refine X.sub (lv' := [(0, .ref b), (1, .ref a1), (2, .ref a2), (3, .ref a3), (4, .int x4)]) [0, 1, 2, 3, 4] rfl ?_
      exact w_L_law_1102 hC hX hk23 hF
    · have hF := it_t u751 hF
      refine x_aload_n hC dL_law_1090 3 rfl ?_
      refine x_iconst (v := 0) hC dL_law_1091 (by decide) ?_
      obtain ⟨g749, hF⟩ := gd_e hF
      refine x_lald hC g749.1 g749.2 dL_law_1092 ?_
      refine x_iload hC dL_law_1093 6 rfl ?_
      refine x_i2l hC dL_law_1095 ?_
      refine x_lcmp hC dL_law_1096 ?_
      refine x_if_eq (tgt := 1102) hC dL_law_1097 (by decide) (fun u750 => ?_) (fun u750 => ?_)
      · have hF := it_t u750 hF
        refine X.sub (lv' := [(0, .ref b), (1, .ref a1), (2, .ref a2), (3, .ref a3), (4, .int x4)]) [0, 1, 2, 3, 4] rfl ?_
        exact w_L_law_1102 hC hX hk23 hF
      · have hF := it_f u750 hF
        refine X.sub (lv' := []) [] rfl ?_
        exact w_L_law_1100 hC hX  hF
  · have hF := it_f u752 hF
    refine X.sub (lv' := []) [] rfl ?_
    exact w_L_law_1083 hC hX  hF
theorem w_L_law_1116 {cx : zX} {h0 : AH} (hC : Cx cx RX0 cL_law 8 8192 104096 (some .boolean) h0) {b L : Nat} {xs : Nat → Int32} (hX : zScr cx.G b L xs) {h : AH} {r : (Int32 × AH)}    (hF : B_L_law_1116 h L xs   = some r) : X cx 8 (zQ cx h0 (.inl (some (.int r.1))) r.2) h 1116 [] [] := by
  refine x_iconst (v := 0) hC dL_law_1116 (by decide) ?_
  have e := some_e hF
  subst e
  exact x_zret (ty := .boolean) hC (bl_n (Or.inl rfl)) dL_law_1117
theorem w_L_law_1105 {cx : zX} {h0 : AH} (hC : Cx cx RX0 cL_law 8 8192 104096 (some .boolean) h0) {b L : Nat} {xs : Nat → Int32} (hX : zScr cx.G b L xs) {h : AH} {r : (Int32 × AH)} {kh23 : AH → Nat → Nat → Nat → Int32 → Option (Int32 × AH)} (hk23 : ∀ (h : AH) (a1 : Nat) (a2 : Nat) (a3 : Nat) (x4 : Int32), kh23 h a1 a2 a3 x4 = some r → X cx 8 (zQ cx h0 (.inl (some (.int r.1))) r.2) h 23 [(0, .ref b), (1, .ref a1), (2, .ref a2), (3, .ref a3), (4, .int x4)] []) {a1 : Nat} {a2 : Nat} {a3 : Nat} {x4 : Int32} (hF : B_L_law_1105 h L xs kh23 a1 a2 a3 x4 = some r) : X cx 8 (zQ cx h0 (.inl (some (.int r.1))) r.2) h 1105 [(0, .ref b), (1, .ref a1), (2, .ref a2), (3, .ref a3), (4, .int x4)] [] := by
  refine x_aload_n hC dL_law_1105 1 rfl ?_
  obtain ⟨g753, hF⟩ := gd_e hF
  obtain ⟨r754, e755, hF⟩ := bd_e hF
  refine xk_V (κ := 1) (As := []) (st := []) hC (m_X1_round hC.fl e755) g753 rfl q415 q416 q417 q418 q97 hy_X1_round ⟨Nat.le_of_ble_eq_true rfl, Nat.le_of_ble_eq_true rfl⟩ (Nat.le_of_ble_eq_true rfl) rfl dL_law_1106 ?_
  refine x_aload_n hC dL_law_1109 2 rfl ?_
  obtain ⟨g756, hF⟩ := gd_e hF
  obtain ⟨r757, e758, hF⟩ := bd_e hF
  refine xk_V (κ := 8) (As := []) (st := [.int r754]) hC (m_X8_round hC.fl e758) g756 rfl q2193 q2194 q2195 q2196 q107 hy_X8_round ⟨Nat.le_of_ble_eq_true rfl, Nat.le_of_ble_eq_true rfl⟩ (Nat.le_of_ble_eq_true rfl) rfl dL_law_1110 ?_
  refine x_icmp_eq (tgt := 2923) hC dL_law_1113 (by decide) (fun u759 => ?_) (fun u759 => ?_)
  · have hF := it_t u759 hF
    exact w_L_law_2923 hC hX hk23 hF
  · have hF := it_f u759 hF
    refine X.sub (lv' := []) [] rfl ?_
    exact w_L_law_1116 hC hX  hF
theorem w_L_law_1199 {cx : zX} {h0 : AH} (hC : Cx cx RX0 cL_law 8 8192 104096 (some .boolean) h0) {b L : Nat} {xs : Nat → Int32} (hX : zScr cx.G b L xs) {h : AH} {r : (Int32 × AH)} {kh23 : AH → Nat → Nat → Nat → Int32 → Option (Int32 × AH)} (hk23 : ∀ (h : AH) (a1 : Nat) (a2 : Nat) (a3 : Nat) (x4 : Int32), kh23 h a1 a2 a3 x4 = some r → X cx 8 (zQ cx h0 (.inl (some (.int r.1))) r.2) h 23 [(0, .ref b), (1, .ref a1), (2, .ref a2), (3, .ref a3), (4, .int x4)] []) {a1 : Nat} {a2 : Nat} {a3 : Nat} {x4 : Int32} (hF : B_L_law_1199 h L xs kh23 a1 a2 a3 x4 = some r) : X cx 8 (zQ cx h0 (.inl (some (.int r.1))) r.2) h 1199 [(0, .ref b), (1, .ref a1), (2, .ref a2), (3, .ref a3), (4, .int x4)] [] := by
  refine x_goto (tgt := 2923) hC dL_law_1199 (by decide) ?_
  exact w_L_law_2923 hC hX hk23 hF
theorem w_L_law_1197 {cx : zX} {h0 : AH} (hC : Cx cx RX0 cL_law 8 8192 104096 (some .boolean) h0) {b L : Nat} {xs : Nat → Int32} (hX : zScr cx.G b L xs) {h : AH} {r : (Int32 × AH)}    (hF : B_L_law_1197 h L xs   = some r) : X cx 8 (zQ cx h0 (.inl (some (.int r.1))) r.2) h 1197 [] [] := by
  refine x_iconst (v := 0) hC dL_law_1197 (by decide) ?_
  have e := some_e hF
  subst e
  exact x_zret (ty := .boolean) hC (bl_n (Or.inl rfl)) dL_law_1198
theorem w_L_law_1180 {cx : zX} {h0 : AH} (hC : Cx cx RX0 cL_law 8 8192 104096 (some .boolean) h0) {b L : Nat} {xs : Nat → Int32} (hX : zScr cx.G b L xs) {h : AH} {r : (Int32 × AH)}    (hF : B_L_law_1180 h L xs   = some r) : X cx 8 (zQ cx h0 (.inl (some (.int r.1))) r.2) h 1180 [] [] := by
  refine x_iconst (v := 0) hC dL_law_1180 (by decide) ?_
  have e := some_e hF
  subst e
  exact x_zret (ty := .boolean) hC (bl_n (Or.inl rfl)) dL_law_1181
theorem w_L_law_1166 {cx : zX} {h0 : AH} (hC : Cx cx RX0 cL_law 8 8192 104096 (some .boolean) h0) {b L : Nat} {xs : Nat → Int32} (hX : zScr cx.G b L xs) {h : AH} {r : (Int32 × AH)} {kh23 : AH → Nat → Nat → Nat → Int32 → Option (Int32 × AH)} (hk23 : ∀ (h : AH) (a1 : Nat) (a2 : Nat) (a3 : Nat) (x4 : Int32), kh23 h a1 a2 a3 x4 = some r → X cx 8 (zQ cx h0 (.inl (some (.int r.1))) r.2) h 23 [(0, .ref b), (1, .ref a1), (2, .ref a2), (3, .ref a3), (4, .int x4)] []) {a1 : Nat} {a2 : Nat} {a3 : Nat} {x4 : Int32} {x5 : Int32} {t0 : Int32} {t1 : Int32} {t2 : Nat} (hF : B_L_law_1166 h L xs kh23 a1 a2 a3 x4 x5 t0 t1 t2 = some r) : X cx 8 (zQ cx h0 (.inl (some (.int r.1))) r.2) h 1166 [(0, .ref b), (1, .ref a1), (2, .ref a2), (3, .ref a3), (4, .int x4), (5, .int x5)] [.int t0, .int t1, .ref t2] := by
  obtain ⟨g760, hF⟩ := gd_e hF
  obtain ⟨r761, e762, hF⟩ := bd_e hF
  refine xk_V (κ := 8) (As := [.int t1, .int t0]) (st := []) hC (m_X8_leads hC.fl e762) g760 rfl q2201 q2202 q2203 q2204 q107 hy_X8_leads ⟨Nat.le_of_ble_eq_true rfl, Nat.le_of_ble_eq_true rfl⟩ (Nat.le_of_ble_eq_true rfl) rfl dL_law_1166 ?_
  refine x_istore (lv' := [(0, .ref b), (1, .ref a1), (2, .ref a2), (3, .ref a3), (4, .int x4), (5, .int x5), (6, .int r761.1)]) hC dL_law_1169 (by decide) [1, 2, 3, 4, 5, 6, 0] rfl ?_
  refine x_aload_n hC dL_law_1171 2 rfl ?_
  obtain ⟨g763, hF⟩ := gd_e hF
  obtain ⟨r764, e765, hF⟩ := bd_e hF
  refine xk_V (κ := 8) (As := []) (st := []) hC (m_X8_thrown hC.fl e765) g763 rfl q1950 q1951 q1952 q1953 q107 hy_X8_thrown ⟨Nat.le_of_ble_eq_true rfl, Nat.le_of_ble_eq_true rfl⟩ (Nat.le_of_ble_eq_true rfl) rfl dL_law_1172 ?_
  refine x_iload hC dL_law_1175 5 rfl ?_
  refine x_icmp_eq (tgt := 1182) hC dL_law_1177 (by decide) (fun u769 => ?_) (fun u769 => ?_)
  · have hF := it_t u769 hF
    refine x_iload hC dL_law_1182 5 rfl ?_
    refine x_if_ne (tgt := 1199) hC dL_law_1184 (by decide) (fun u768 => ?_) (fun u768 => ?_)
    · have hF := it_f u768 hF
      refine X.sub (lv' := [(0, .ref b), (1, .ref a1), (2, .ref a2), (3, .ref a3), (4, .int x4)]) [0, 1, 2, 3, 4] rfl ?_
      exact w_L_law_1199 hC hX hk23 hF
    · have hF := it_t u768 hF
      refine x_aload_n hC dL_law_1187 3 rfl ?_
      refine x_iconst (v := 0) hC dL_law_1188 (by decide) ?_
      obtain ⟨g766, hF⟩ := gd_e hF
      refine x_lald hC g766.1 g766.2 dL_law_1189 ?_
      refine x_iload hC dL_law_1190 6 rfl ?_
      refine x_i2l hC dL_law_1192 ?_
      refine x_lcmp hC dL_law_1193 ?_
      refine x_if_eq (tgt := 1199) hC dL_law_1194 (by decide) (fun u767 => ?_) (fun u767 => ?_)
      · have hF := it_t u767 hF
        refine X.sub (lv' := [(0, .ref b), (1, .ref a1), (2, .ref a2), (3, .ref a3), (4, .int x4)]) [0, 1, 2, 3, 4] rfl ?_
        exact w_L_law_1199 hC hX hk23 hF
      · have hF := it_f u767 hF
        refine X.sub (lv' := []) [] rfl ?_
        exact w_L_law_1197 hC hX  hF
  · have hF := it_f u769 hF
    refine X.sub (lv' := []) [] rfl ?_
    exact w_L_law_1180 hC hX  hF
theorem w_L_law_1139 {cx : zX} {h0 : AH} (hC : Cx cx RX0 cL_law 8 8192 104096 (some .boolean) h0) {b L : Nat} {xs : Nat → Int32} (hX : zScr cx.G b L xs) {h : AH} {r : (Int32 × AH)} {kh23 : AH → Nat → Nat → Nat → Int32 → Option (Int32 × AH)} (hk23 : ∀ (h : AH) (a1 : Nat) (a2 : Nat) (a3 : Nat) (x4 : Int32), kh23 h a1 a2 a3 x4 = some r → X cx 8 (zQ cx h0 (.inl (some (.int r.1))) r.2) h 23 [(0, .ref b), (1, .ref a1), (2, .ref a2), (3, .ref a3), (4, .int x4)] []) {a1 : Nat} {a2 : Nat} {a3 : Nat} {x4 : Int32} {t0 : Int32} {t1 : Int32} {t2 : Nat} (hF : B_L_law_1139 h L xs kh23 a1 a2 a3 x4 t0 t1 t2 = some r) : X cx 8 (zQ cx h0 (.inl (some (.int r.1))) r.2) h 1139 [(0, .ref b), (1, .ref a1), (2, .ref a2), (3, .ref a3), (4, .int x4)] [.int t0, .int t1, .ref t2] := by
  refine x_aload_n hC dL_law_1139 3 rfl ?_
  obtain ⟨r770, e771, hF⟩ := bd_e hF
  refine xk_SW (As := [.ref t2, .int t1, .int t0, .ref a3]) (st := []) hC (m_X0_leads hC.fl e771) q1461 q1462 q1463 q96 hy_X0_leads ⟨Nat.le_of_ble_eq_true rfl, Nat.le_of_ble_eq_true rfl⟩ (Nat.le_of_ble_eq_true rfl) rfl dL_law_1140 ?_
  refine x_istore (lv' := [(0, .ref b), (1, .ref a1), (2, .ref a2), (3, .ref a3), (4, .int x4), (5, .int r770.1)]) hC dL_law_1143 (by decide) [1, 2, 3, 4, 5, 0] rfl ?_
  refine x_aload_n hC dL_law_1145 2 rfl ?_
  refine x_aload_n hC dL_law_1146 0 rfl ?_
  refine x_iload hC dL_law_1147 4 rfl ?_
  refine x_iconst (v := 1) hC dL_law_1149 (by decide) ?_
  refine x_iadd hC dL_law_1150 ?_
  obtain ⟨g772, hF⟩ := gd_e hF
  refine x_sld hC hX g772 dL_law_1151 ?_
  refine x_aload_n hC dL_law_1152 0 rfl ?_
  refine x_iload hC dL_law_1153 4 rfl ?_
  refine x_iconst (v := 2) hC dL_law_1155 (by decide) ?_
  refine x_iadd hC dL_law_1156 ?_
  obtain ⟨g773, hF⟩ := gd_e hF
  refine x_sld hC hX g773 dL_law_1157 ?_
  refine x_if_eq (tgt := 1165) hC dL_law_1158 (by decide) (fun u774 => ?_) (fun u774 => ?_)
  · have hF := it_t u774 hF
    refine x_iconst (v := 0) hC dL_law_1165 (by decide) ?_
    exact w_L_law_1166 hC hX hk23 hF
  · have hF := it_f u774 hF
    refine x_iconst (v := 1) hC dL_law_1161 (by decide) ?_
    refine x_goto (tgt := 1166) hC dL_law_1162 (by decide) ?_
    exact w_L_law_1166 hC hX hk23 hF
theorem w_L_law_1118 {cx : zX} {h0 : AH} (hC : Cx cx RX0 cL_law 8 8192 104096 (some .boolean) h0) {b L : Nat} {xs : Nat → Int32} (hX : zScr cx.G b L xs) {h : AH} {r : (Int32 × AH)} {kh23 : AH → Nat → Nat → Nat → Int32 → Option (Int32 × AH)} (hk23 : ∀ (h : AH) (a1 : Nat) (a2 : Nat) (a3 : Nat) (x4 : Int32), kh23 h a1 a2 a3 x4 = some r → X cx 8 (zQ cx h0 (.inl (some (.int r.1))) r.2) h 23 [(0, .ref b), (1, .ref a1), (2, .ref a2), (3, .ref a3), (4, .int x4)] []) {a1 : Nat} {a2 : Nat} {a3 : Nat} {x4 : Int32} (hF : B_L_law_1118 h L xs kh23 a1 a2 a3 x4 = some r) : X cx 8 (zQ cx h0 (.inl (some (.int r.1))) r.2) h 1118 [(0, .ref b), (1, .ref a1), (2, .ref a2), (3, .ref a3), (4, .int x4)] [] := by
  refine x_aload_n hC dL_law_1118 1 rfl ?_
  refine x_aload_n hC dL_law_1119 0 rfl ?_
  refine x_iload hC dL_law_1120 4 rfl ?_
  refine x_iconst (v := 1) hC dL_law_1122 (by decide) ?_
  refine x_iadd hC dL_law_1123 ?_
  obtain ⟨g775, hF⟩ := gd_e hF
  refine x_sld hC hX g775 dL_law_1124 ?_
  refine x_aload_n hC dL_law_1125 0 rfl ?_
  refine x_iload hC dL_law_1126 4 rfl ?_
  refine x_iconst (v := 2) hC dL_law_1128 (by decide) ?_
  refine x_iadd hC dL_law_1129 ?_
  obtain ⟨g776, hF⟩ := gd_e hF
  refine x_sld hC hX g776 dL_law_1130 ?_
  refine x_if_eq (tgt := 1138) hC dL_law_1131 (by decide) (fun u777 => ?_) (fun u777 => ?_)
  · have hF := it_t u777 hF
    refine x_iconst (v := 0) hC dL_law_1138 (by decide) ?_
    exact w_L_law_1139 hC hX hk23 hF
  · have hF := it_f u777 hF
    refine x_iconst (v := 1) hC dL_law_1134 (by decide) ?_
    refine x_goto (tgt := 1139) hC dL_law_1135 (by decide) ?_
    exact w_L_law_1139 hC hX hk23 hF
theorem w_L_law_1302 {cx : zX} {h0 : AH} (hC : Cx cx RX0 cL_law 8 8192 104096 (some .boolean) h0) {b L : Nat} {xs : Nat → Int32} (hX : zScr cx.G b L xs) {h : AH} {r : (Int32 × AH)} {kh23 : AH → Nat → Nat → Nat → Int32 → Option (Int32 × AH)} (hk23 : ∀ (h : AH) (a1 : Nat) (a2 : Nat) (a3 : Nat) (x4 : Int32), kh23 h a1 a2 a3 x4 = some r → X cx 8 (zQ cx h0 (.inl (some (.int r.1))) r.2) h 23 [(0, .ref b), (1, .ref a1), (2, .ref a2), (3, .ref a3), (4, .int x4)] []) {a1 : Nat} {a2 : Nat} {a3 : Nat} {x4 : Int32} (hF : B_L_law_1302 h L xs kh23 a1 a2 a3 x4 = some r) : X cx 8 (zQ cx h0 (.inl (some (.int r.1))) r.2) h 1302 [(0, .ref b), (1, .ref a1), (2, .ref a2), (3, .ref a3), (4, .int x4)] [] := by
  refine x_goto (tgt := 2923) hC dL_law_1302 (by decide) ?_
  exact w_L_law_2923 hC hX hk23 hF
theorem w_L_law_1300 {cx : zX} {h0 : AH} (hC : Cx cx RX0 cL_law 8 8192 104096 (some .boolean) h0) {b L : Nat} {xs : Nat → Int32} (hX : zScr cx.G b L xs) {h : AH} {r : (Int32 × AH)}    (hF : B_L_law_1300 h L xs   = some r) : X cx 8 (zQ cx h0 (.inl (some (.int r.1))) r.2) h 1300 [] [] := by
  refine x_iconst (v := 0) hC dL_law_1300 (by decide) ?_
  have e := some_e hF
  subst e
  exact x_zret (ty := .boolean) hC (bl_n (Or.inl rfl)) dL_law_1301
theorem w_L_law_1296 {cx : zX} {h0 : AH} (hC : Cx cx RX0 cL_law 8 8192 104096 (some .boolean) h0) {b L : Nat} {xs : Nat → Int32} (hX : zScr cx.G b L xs) {h : AH} {r : (Int32 × AH)} {kh23 : AH → Nat → Nat → Nat → Int32 → Option (Int32 × AH)} (hk23 : ∀ (h : AH) (a1 : Nat) (a2 : Nat) (a3 : Nat) (x4 : Int32), kh23 h a1 a2 a3 x4 = some r → X cx 8 (zQ cx h0 (.inl (some (.int r.1))) r.2) h 23 [(0, .ref b), (1, .ref a1), (2, .ref a2), (3, .ref a3), (4, .int x4)] []) {a1 : Nat} {a2 : Nat} {a3 : Nat} {x4 : Int32} {t0 : Int64} {t1 : Int64} (hF : B_L_law_1296 h L xs kh23 a1 a2 a3 x4 t0 t1 = some r) : X cx 8 (zQ cx h0 (.inl (some (.int r.1))) r.2) h 1296 [(0, .ref b), (1, .ref a1), (2, .ref a2), (3, .ref a3), (4, .int x4)] [.long t0, .long t1] := by
  refine x_lcmp hC dL_law_1296 ?_
  refine x_if_eq (tgt := 1302) hC dL_law_1297 (by decide) (fun u778 => ?_) (fun u778 => ?_)
  · have hF := it_t u778 hF
    exact w_L_law_1302 hC hX hk23 hF
  · have hF := it_f u778 hF
    refine X.sub (lv' := []) [] rfl ?_
    exact w_L_law_1300 hC hX  hF
theorem w_L_law_1276 {cx : zX} {h0 : AH} (hC : Cx cx RX0 cL_law 8 8192 104096 (some .boolean) h0) {b L : Nat} {xs : Nat → Int32} (hX : zScr cx.G b L xs) {h : AH} {r : (Int32 × AH)}    (hF : B_L_law_1276 h L xs   = some r) : X cx 8 (zQ cx h0 (.inl (some (.int r.1))) r.2) h 1276 [] [] := by
  refine x_iconst (v := 0) hC dL_law_1276 (by decide) ?_
  have e := some_e hF
  subst e
  exact x_zret (ty := .boolean) hC (bl_n (Or.inl rfl)) dL_law_1277
theorem w_L_law_1262 {cx : zX} {h0 : AH} (hC : Cx cx RX0 cL_law 8 8192 104096 (some .boolean) h0) {b L : Nat} {xs : Nat → Int32} (hX : zScr cx.G b L xs) {h : AH} {r : (Int32 × AH)} {kh23 : AH → Nat → Nat → Nat → Int32 → Option (Int32 × AH)} (hk23 : ∀ (h : AH) (a1 : Nat) (a2 : Nat) (a3 : Nat) (x4 : Int32), kh23 h a1 a2 a3 x4 = some r → X cx 8 (zQ cx h0 (.inl (some (.int r.1))) r.2) h 23 [(0, .ref b), (1, .ref a1), (2, .ref a2), (3, .ref a3), (4, .int x4)] []) {a1 : Nat} {a2 : Nat} {a3 : Nat} {x4 : Int32} {x5 : Int32} {t0 : Int32} {t1 : Int32} {t2 : Int32} {t3 : Nat} (hF : B_L_law_1262 h L xs kh23 a1 a2 a3 x4 x5 t0 t1 t2 t3 = some r) : X cx 8 (zQ cx h0 (.inl (some (.int r.1))) r.2) h 1262 [(0, .ref b), (1, .ref a1), (2, .ref a2), (3, .ref a3), (4, .int x4), (5, .int x5)] [.int t0, .int t1, .int t2, .ref t3] := by
  obtain ⟨g779, hF⟩ := gd_e hF
  obtain ⟨r780, e781, hF⟩ := bd_e hF
  refine xk_V (κ := 8) (As := [.int t2, .int t1, .int t0]) (st := []) hC (m_X8_passed hC.fl e781) g779 rfl q2225 q2226 q2227 q2228 q107 hy_X8_passed ⟨Nat.le_of_ble_eq_true rfl, Nat.le_of_ble_eq_true rfl⟩ (Nat.le_of_ble_eq_true rfl) rfl dL_law_1262 ?_
  refine x_istore (lv' := [(0, .ref b), (1, .ref a1), (2, .ref a2), (3, .ref a3), (4, .int x4), (5, .int x5), (6, .int r780.1)]) hC dL_law_1265 (by decide) [1, 2, 3, 4, 5, 6, 0] rfl ?_
  refine x_aload_n hC dL_law_1267 2 rfl ?_
  obtain ⟨g782, hF⟩ := gd_e hF
  obtain ⟨r783, e784, hF⟩ := bd_e hF
  refine xk_V (κ := 8) (As := []) (st := []) hC (m_X8_thrown hC.fl e784) g782 rfl q1950 q1951 q1952 q1953 q107 hy_X8_thrown ⟨Nat.le_of_ble_eq_true rfl, Nat.le_of_ble_eq_true rfl⟩ (Nat.le_of_ble_eq_true rfl) rfl dL_law_1268 ?_
  refine x_iload hC dL_law_1271 5 rfl ?_
  refine x_icmp_eq (tgt := 1278) hC dL_law_1273 (by decide) (fun u788 => ?_) (fun u788 => ?_)
  · have hF := it_t u788 hF
    refine x_iload hC dL_law_1278 5 rfl ?_
    refine x_if_ne (tgt := 1302) hC dL_law_1280 (by decide) (fun u787 => ?_) (fun u787 => ?_)
    · have hF := it_f u787 hF
      refine X.sub (lv' := [(0, .ref b), (1, .ref a1), (2, .ref a2), (3, .ref a3), (4, .int x4)]) [0, 1, 2, 3, 4] rfl ?_
      exact w_L_law_1302 hC hX hk23 hF
    · have hF := it_t u787 hF
      refine x_aload_n hC dL_law_1283 3 rfl ?_
      refine x_iconst (v := 0) hC dL_law_1284 (by decide) ?_
      obtain ⟨g785, hF⟩ := gd_e hF
      refine x_lald hC g785.1 g785.2 dL_law_1285 ?_
      refine x_iload hC dL_law_1286 6 rfl ?_
      refine x_if_eq (tgt := 1295) hC dL_law_1288 (by decide) (fun u786 => ?_) (fun u786 => ?_)
      · have hF := it_t u786 hF
        refine x_lconst (v := 0) hC dL_law_1295 (by decide) ?_
        refine X.sub (lv' := [(0, .ref b), (1, .ref a1), (2, .ref a2), (3, .ref a3), (4, .int x4)]) [0, 1, 2, 3, 4] rfl ?_
        exact w_L_law_1296 hC hX hk23 hF
      · have hF := it_f u786 hF
        refine x_lconst (v := 1) hC dL_law_1291 (by decide) ?_
        refine x_goto (tgt := 1296) hC dL_law_1292 (by decide) ?_
        refine X.sub (lv' := [(0, .ref b), (1, .ref a1), (2, .ref a2), (3, .ref a3), (4, .int x4)]) [0, 1, 2, 3, 4] rfl ?_
        exact w_L_law_1296 hC hX hk23 hF
  · have hF := it_f u788 hF
    refine X.sub (lv' := []) [] rfl ?_
    exact w_L_law_1276 hC hX  hF
theorem w_L_law_1229 {cx : zX} {h0 : AH} (hC : Cx cx RX0 cL_law 8 8192 104096 (some .boolean) h0) {b L : Nat} {xs : Nat → Int32} (hX : zScr cx.G b L xs) {h : AH} {r : (Int32 × AH)} {kh23 : AH → Nat → Nat → Nat → Int32 → Option (Int32 × AH)} (hk23 : ∀ (h : AH) (a1 : Nat) (a2 : Nat) (a3 : Nat) (x4 : Int32), kh23 h a1 a2 a3 x4 = some r → X cx 8 (zQ cx h0 (.inl (some (.int r.1))) r.2) h 23 [(0, .ref b), (1, .ref a1), (2, .ref a2), (3, .ref a3), (4, .int x4)] []) {a1 : Nat} {a2 : Nat} {a3 : Nat} {x4 : Int32} {t0 : Int32} {t1 : Int32} {t2 : Int32} {t3 : Nat} (hF : B_L_law_1229 h L xs kh23 a1 a2 a3 x4 t0 t1 t2 t3 = some r) : X cx 8 (zQ cx h0 (.inl (some (.int r.1))) r.2) h 1229 [(0, .ref b), (1, .ref a1), (2, .ref a2), (3, .ref a3), (4, .int x4)] [.int t0, .int t1, .int t2, .ref t3] := by
  refine x_aload_n hC dL_law_1229 3 rfl ?_
  obtain ⟨r789, e790, hF⟩ := bd_e hF
  refine xk_SW (As := [.ref t3, .int t2, .int t1, .int t0, .ref a3]) (st := []) hC (m_X0_passed hC.fl e790) q1480 q1481 q1482 q96 hy_X0_passed ⟨Nat.le_of_ble_eq_true rfl, Nat.le_of_ble_eq_true rfl⟩ (Nat.le_of_ble_eq_true rfl) rfl dL_law_1230 ?_
  refine x_istore (lv' := [(0, .ref b), (1, .ref a1), (2, .ref a2), (3, .ref a3), (4, .int x4), (5, .int r789.1)]) hC dL_law_1233 (by decide) [1, 2, 3, 4, 5, 0] rfl ?_
  refine x_aload_n hC dL_law_1235 2 rfl ?_
  refine x_aload_n hC dL_law_1236 0 rfl ?_
  refine x_iload hC dL_law_1237 4 rfl ?_
  refine x_iconst (v := 1) hC dL_law_1239 (by decide) ?_
  refine x_iadd hC dL_law_1240 ?_
  obtain ⟨g791, hF⟩ := gd_e hF
  refine x_sld hC hX g791 dL_law_1241 ?_
  refine x_aload_n hC dL_law_1242 0 rfl ?_
  refine x_iload hC dL_law_1243 4 rfl ?_
  refine x_iconst (v := 2) hC dL_law_1245 (by decide) ?_
  refine x_iadd hC dL_law_1246 ?_
  obtain ⟨g792, hF⟩ := gd_e hF
  refine x_sld hC hX g792 dL_law_1247 ?_
  refine x_aload_n hC dL_law_1248 0 rfl ?_
  refine x_iload hC dL_law_1249 4 rfl ?_
  refine x_iconst (v := 3) hC dL_law_1251 (by decide) ?_
  refine x_iadd hC dL_law_1252 ?_
  obtain ⟨g793, hF⟩ := gd_e hF
  refine x_sld hC hX g793 dL_law_1253 ?_
  refine x_if_eq (tgt := 1261) hC dL_law_1254 (by decide) (fun u794 => ?_) (fun u794 => ?_)
  · have hF := it_t u794 hF
    refine x_iconst (v := 0) hC dL_law_1261 (by decide) ?_
    exact w_L_law_1262 hC hX hk23 hF
  · have hF := it_f u794 hF
    refine x_iconst (v := 1) hC dL_law_1257 (by decide) ?_
    refine x_goto (tgt := 1262) hC dL_law_1258 (by decide) ?_
    exact w_L_law_1262 hC hX hk23 hF
theorem w_L_law_1202 {cx : zX} {h0 : AH} (hC : Cx cx RX0 cL_law 8 8192 104096 (some .boolean) h0) {b L : Nat} {xs : Nat → Int32} (hX : zScr cx.G b L xs) {h : AH} {r : (Int32 × AH)} {kh23 : AH → Nat → Nat → Nat → Int32 → Option (Int32 × AH)} (hk23 : ∀ (h : AH) (a1 : Nat) (a2 : Nat) (a3 : Nat) (x4 : Int32), kh23 h a1 a2 a3 x4 = some r → X cx 8 (zQ cx h0 (.inl (some (.int r.1))) r.2) h 23 [(0, .ref b), (1, .ref a1), (2, .ref a2), (3, .ref a3), (4, .int x4)] []) {a1 : Nat} {a2 : Nat} {a3 : Nat} {x4 : Int32} (hF : B_L_law_1202 h L xs kh23 a1 a2 a3 x4 = some r) : X cx 8 (zQ cx h0 (.inl (some (.int r.1))) r.2) h 1202 [(0, .ref b), (1, .ref a1), (2, .ref a2), (3, .ref a3), (4, .int x4)] [] := by
  refine x_aload_n hC dL_law_1202 1 rfl ?_
  refine x_aload_n hC dL_law_1203 0 rfl ?_
  refine x_iload hC dL_law_1204 4 rfl ?_
  refine x_iconst (v := 1) hC dL_law_1206 (by decide) ?_
  refine x_iadd hC dL_law_1207 ?_
  obtain ⟨g795, hF⟩ := gd_e hF
  refine x_sld hC hX g795 dL_law_1208 ?_
  refine x_aload_n hC dL_law_1209 0 rfl ?_
  refine x_iload hC dL_law_1210 4 rfl ?_
  refine x_iconst (v := 2) hC dL_law_1212 (by decide) ?_
  refine x_iadd hC dL_law_1213 ?_
  obtain ⟨g796, hF⟩ := gd_e hF
  refine x_sld hC hX g796 dL_law_1214 ?_
  refine x_aload_n hC dL_law_1215 0 rfl ?_
  refine x_iload hC dL_law_1216 4 rfl ?_
  refine x_iconst (v := 3) hC dL_law_1218 (by decide) ?_
  refine x_iadd hC dL_law_1219 ?_
  obtain ⟨g797, hF⟩ := gd_e hF
  refine x_sld hC hX g797 dL_law_1220 ?_
  refine x_if_eq (tgt := 1228) hC dL_law_1221 (by decide) (fun u798 => ?_) (fun u798 => ?_)
  · have hF := it_t u798 hF
    refine x_iconst (v := 0) hC dL_law_1228 (by decide) ?_
    exact w_L_law_1229 hC hX hk23 hF
  · have hF := it_f u798 hF
    refine x_iconst (v := 1) hC dL_law_1224 (by decide) ?_
    refine x_goto (tgt := 1229) hC dL_law_1225 (by decide) ?_
    exact w_L_law_1229 hC hX hk23 hF
theorem w_L_law_1317 {cx : zX} {h0 : AH} (hC : Cx cx RX0 cL_law 8 8192 104096 (some .boolean) h0) {b L : Nat} {xs : Nat → Int32} (hX : zScr cx.G b L xs) {h : AH} {r : (Int32 × AH)}    (hF : B_L_law_1317 h L xs   = some r) : X cx 8 (zQ cx h0 (.inl (some (.int r.1))) r.2) h 1317 [] [] := by
  refine x_iconst (v := 0) hC dL_law_1317 (by decide) ?_
  have e := some_e hF
  subst e
  exact x_zret (ty := .boolean) hC (bl_n (Or.inl rfl)) dL_law_1318
theorem w_L_law_1305 {cx : zX} {h0 : AH} (hC : Cx cx RX0 cL_law 8 8192 104096 (some .boolean) h0) {b L : Nat} {xs : Nat → Int32} (hX : zScr cx.G b L xs) {h : AH} {r : (Int32 × AH)} {kh23 : AH → Nat → Nat → Nat → Int32 → Option (Int32 × AH)} (hk23 : ∀ (h : AH) (a1 : Nat) (a2 : Nat) (a3 : Nat) (x4 : Int32), kh23 h a1 a2 a3 x4 = some r → X cx 8 (zQ cx h0 (.inl (some (.int r.1))) r.2) h 23 [(0, .ref b), (1, .ref a1), (2, .ref a2), (3, .ref a3), (4, .int x4)] []) {a1 : Nat} {a2 : Nat} {a3 : Nat} {x4 : Int32} (hF : B_L_law_1305 h L xs kh23 a1 a2 a3 x4 = some r) : X cx 8 (zQ cx h0 (.inl (some (.int r.1))) r.2) h 1305 [(0, .ref b), (1, .ref a1), (2, .ref a2), (3, .ref a3), (4, .int x4)] [] := by
  refine x_aload_n hC dL_law_1305 1 rfl ?_
  obtain ⟨g799, hF⟩ := gd_e hF
  obtain ⟨r800, e801, hF⟩ := bd_e hF
  refine xk_V (κ := 1) (As := []) (st := []) hC (m_X1_upper hC.fl e801) g799 rfl q439 q440 q441 q442 q97 hy_X1_upper ⟨Nat.le_of_ble_eq_true rfl, Nat.le_of_ble_eq_true rfl⟩ (Nat.le_of_ble_eq_true rfl) rfl dL_law_1306 ?_
  refine x_aload_n hC dL_law_1309 2 rfl ?_
  obtain ⟨g802, hF⟩ := gd_e hF
  obtain ⟨r803, e804, hF⟩ := bd_e hF
  refine xk_V (κ := 8) (As := []) (st := [.long r800]) hC (m_X8_upper hC.fl e804) g802 rfl q2217 q2218 q2219 q2220 q107 hy_X8_upper ⟨Nat.le_of_ble_eq_true rfl, Nat.le_of_ble_eq_true rfl⟩ (Nat.le_of_ble_eq_true rfl) rfl dL_law_1310 ?_
  refine x_lcmp hC dL_law_1313 ?_
  refine x_if_eq (tgt := 2923) hC dL_law_1314 (by decide) (fun u805 => ?_) (fun u805 => ?_)
  · have hF := it_t u805 hF
    exact w_L_law_2923 hC hX hk23 hF
  · have hF := it_f u805 hF
    refine X.sub (lv' := []) [] rfl ?_
    exact w_L_law_1317 hC hX  hF
theorem w_L_law_1331 {cx : zX} {h0 : AH} (hC : Cx cx RX0 cL_law 8 8192 104096 (some .boolean) h0) {b L : Nat} {xs : Nat → Int32} (hX : zScr cx.G b L xs) {h : AH} {r : (Int32 × AH)}    (hF : B_L_law_1331 h L xs   = some r) : X cx 8 (zQ cx h0 (.inl (some (.int r.1))) r.2) h 1331 [] [] := by
  refine x_iconst (v := 0) hC dL_law_1331 (by decide) ?_
  have e := some_e hF
  subst e
  exact x_zret (ty := .boolean) hC (bl_n (Or.inl rfl)) dL_law_1332
theorem w_L_law_1319 {cx : zX} {h0 : AH} (hC : Cx cx RX0 cL_law 8 8192 104096 (some .boolean) h0) {b L : Nat} {xs : Nat → Int32} (hX : zScr cx.G b L xs) {h : AH} {r : (Int32 × AH)} {kh23 : AH → Nat → Nat → Nat → Int32 → Option (Int32 × AH)} (hk23 : ∀ (h : AH) (a1 : Nat) (a2 : Nat) (a3 : Nat) (x4 : Int32), kh23 h a1 a2 a3 x4 = some r → X cx 8 (zQ cx h0 (.inl (some (.int r.1))) r.2) h 23 [(0, .ref b), (1, .ref a1), (2, .ref a2), (3, .ref a3), (4, .int x4)] []) {a1 : Nat} {a2 : Nat} {a3 : Nat} {x4 : Int32} (hF : B_L_law_1319 h L xs kh23 a1 a2 a3 x4 = some r) : X cx 8 (zQ cx h0 (.inl (some (.int r.1))) r.2) h 1319 [(0, .ref b), (1, .ref a1), (2, .ref a2), (3, .ref a3), (4, .int x4)] [] := by
  refine x_aload_n hC dL_law_1319 1 rfl ?_
  obtain ⟨g806, hF⟩ := gd_e hF
  obtain ⟨r807, e808, hF⟩ := bd_e hF
  refine xk_V (κ := 1) (As := []) (st := []) hC (m_X1_lower hC.fl e808) g806 rfl q443 q444 q445 q446 q97 hy_X1_lower ⟨Nat.le_of_ble_eq_true rfl, Nat.le_of_ble_eq_true rfl⟩ (Nat.le_of_ble_eq_true rfl) rfl dL_law_1320 ?_
  refine x_aload_n hC dL_law_1323 2 rfl ?_
  obtain ⟨g809, hF⟩ := gd_e hF
  obtain ⟨r810, e811, hF⟩ := bd_e hF
  refine xk_V (κ := 8) (As := []) (st := [.long r807]) hC (m_X8_lower hC.fl e811) g809 rfl q2221 q2222 q2223 q2224 q107 hy_X8_lower ⟨Nat.le_of_ble_eq_true rfl, Nat.le_of_ble_eq_true rfl⟩ (Nat.le_of_ble_eq_true rfl) rfl dL_law_1324 ?_
  refine x_lcmp hC dL_law_1327 ?_
  refine x_if_eq (tgt := 2923) hC dL_law_1328 (by decide) (fun u812 => ?_) (fun u812 => ?_)
  · have hF := it_t u812 hF
    exact w_L_law_2923 hC hX hk23 hF
  · have hF := it_f u812 hF
    refine X.sub (lv' := []) [] rfl ?_
    exact w_L_law_1331 hC hX  hF
theorem w_L_law_1386 {cx : zX} {h0 : AH} (hC : Cx cx RX0 cL_law 8 8192 104096 (some .boolean) h0) {b L : Nat} {xs : Nat → Int32} (hX : zScr cx.G b L xs) {h : AH} {r : (Int32 × AH)} {kh23 : AH → Nat → Nat → Nat → Int32 → Option (Int32 × AH)} (hk23 : ∀ (h : AH) (a1 : Nat) (a2 : Nat) (a3 : Nat) (x4 : Int32), kh23 h a1 a2 a3 x4 = some r → X cx 8 (zQ cx h0 (.inl (some (.int r.1))) r.2) h 23 [(0, .ref b), (1, .ref a1), (2, .ref a2), (3, .ref a3), (4, .int x4)] []) {a1 : Nat} {a2 : Nat} {a3 : Nat} {x4 : Int32} (hF : B_L_law_1386 h L xs kh23 a1 a2 a3 x4 = some r) : X cx 8 (zQ cx h0 (.inl (some (.int r.1))) r.2) h 1386 [(0, .ref b), (1, .ref a1), (2, .ref a2), (3, .ref a3), (4, .int x4)] [] := by
  refine x_goto (tgt := 2923) hC dL_law_1386 (by decide) ?_
  exact w_L_law_2923 hC hX hk23 hF
theorem w_L_law_1384 {cx : zX} {h0 : AH} (hC : Cx cx RX0 cL_law 8 8192 104096 (some .boolean) h0) {b L : Nat} {xs : Nat → Int32} (hX : zScr cx.G b L xs) {h : AH} {r : (Int32 × AH)}    (hF : B_L_law_1384 h L xs   = some r) : X cx 8 (zQ cx h0 (.inl (some (.int r.1))) r.2) h 1384 [] [] := by
  refine x_iconst (v := 0) hC dL_law_1384 (by decide) ?_
  have e := some_e hF
  subst e
  exact x_zret (ty := .boolean) hC (bl_n (Or.inl rfl)) dL_law_1385
theorem w_L_law_1367 {cx : zX} {h0 : AH} (hC : Cx cx RX0 cL_law 8 8192 104096 (some .boolean) h0) {b L : Nat} {xs : Nat → Int32} (hX : zScr cx.G b L xs) {h : AH} {r : (Int32 × AH)}    (hF : B_L_law_1367 h L xs   = some r) : X cx 8 (zQ cx h0 (.inl (some (.int r.1))) r.2) h 1367 [] [] := by
  refine x_iconst (v := 0) hC dL_law_1367 (by decide) ?_
  have e := some_e hF
  subst e
  exact x_zret (ty := .boolean) hC (bl_n (Or.inl rfl)) dL_law_1368
theorem w_L_law_1333 {cx : zX} {h0 : AH} (hC : Cx cx RX0 cL_law 8 8192 104096 (some .boolean) h0) {b L : Nat} {xs : Nat → Int32} (hX : zScr cx.G b L xs) {h : AH} {r : (Int32 × AH)} {kh23 : AH → Nat → Nat → Nat → Int32 → Option (Int32 × AH)} (hk23 : ∀ (h : AH) (a1 : Nat) (a2 : Nat) (a3 : Nat) (x4 : Int32), kh23 h a1 a2 a3 x4 = some r → X cx 8 (zQ cx h0 (.inl (some (.int r.1))) r.2) h 23 [(0, .ref b), (1, .ref a1), (2, .ref a2), (3, .ref a3), (4, .int x4)] []) {a1 : Nat} {a2 : Nat} {a3 : Nat} {x4 : Int32} (hF : B_L_law_1333 h L xs kh23 a1 a2 a3 x4 = some r) : X cx 8 (zQ cx h0 (.inl (some (.int r.1))) r.2) h 1333 [(0, .ref b), (1, .ref a1), (2, .ref a2), (3, .ref a3), (4, .int x4)] [] := by
  refine x_aload_n hC dL_law_1333 1 rfl ?_
  refine x_aload_n hC dL_law_1334 0 rfl ?_
  refine x_iload hC dL_law_1335 4 rfl ?_
  refine x_iconst (v := 1) hC dL_law_1337 (by decide) ?_
  refine x_iadd hC dL_law_1338 ?_
  obtain ⟨g813, hF⟩ := gd_e hF
  refine x_sld hC hX g813 dL_law_1339 ?_
  refine x_aload_n hC dL_law_1340 3 rfl ?_
  obtain ⟨r814, e815, hF⟩ := bd_e hF
  refine xk_SW (As := [.ref a1, .int (xs (ix (x4 + 1))), .ref a3]) (st := []) hC (m_X0_level hC.fl e815) q1491 q1492 q1493 q96 hy_X0_level ⟨Nat.le_of_ble_eq_true rfl, Nat.le_of_ble_eq_true rfl⟩ (Nat.le_of_ble_eq_true rfl) rfl dL_law_1341 ?_
  refine x_istore (lv' := [(0, .ref b), (1, .ref a1), (2, .ref a2), (3, .ref a3), (4, .int x4), (5, .int r814.1)]) hC dL_law_1344 (by decide) [1, 2, 3, 4, 5, 0] rfl ?_
  refine x_aload_n hC dL_law_1346 2 rfl ?_
  refine x_aload_n hC dL_law_1347 0 rfl ?_
  refine x_iload hC dL_law_1348 4 rfl ?_
  refine x_iconst (v := 1) hC dL_law_1350 (by decide) ?_
  refine x_iadd hC dL_law_1351 ?_
  obtain ⟨g816, hF⟩ := gd_e hF
  refine x_sld hC hX g816 dL_law_1352 ?_
  obtain ⟨g817, hF⟩ := gd_e hF
  obtain ⟨r818, e819, hF⟩ := bd_e hF
  refine xk_V (κ := 8) (As := [.int (xs (ix (x4 + 1)))]) (st := []) hC (m_X8_level hC.fl e819) g817 rfl q2235 q2236 q2237 q2238 q107 hy_X8_level ⟨Nat.le_of_ble_eq_true rfl, Nat.le_of_ble_eq_true rfl⟩ (Nat.le_of_ble_eq_true rfl) rfl dL_law_1353 ?_
  refine x_istore (lv' := [(0, .ref b), (1, .ref a1), (2, .ref a2), (3, .ref a3), (4, .int x4), (5, .int r814.1), (6, .int r818.1)]) hC dL_law_1356 (by decide) [1, 2, 3, 4, 5, 6, 0] rfl ?_
  refine x_aload_n hC dL_law_1358 2 rfl ?_
  obtain ⟨g820, hF⟩ := gd_e hF
  obtain ⟨r821, e822, hF⟩ := bd_e hF
  refine xk_V (κ := 8) (As := []) (st := []) hC (m_X8_thrown hC.fl e822) g820 rfl q1950 q1951 q1952 q1953 q107 hy_X8_thrown ⟨Nat.le_of_ble_eq_true rfl, Nat.le_of_ble_eq_true rfl⟩ (Nat.le_of_ble_eq_true rfl) rfl dL_law_1359 ?_
  refine x_iload hC dL_law_1362 5 rfl ?_
  refine x_icmp_eq (tgt := 1369) hC dL_law_1364 (by decide) (fun u826 => ?_) (fun u826 => ?_)
  · have hF := it_t u826 hF
    refine x_iload hC dL_law_1369 5 rfl ?_
    refine x_if_ne (tgt := 1386) hC dL_law_1371 (by decide) (fun u825 => ?_) (fun u825 => ?_)
    · have hF := it_f u825 hF
      refine X.sub (lv' := [(0, .ref b), (1, .ref a1), (2, .ref a2), (3, .ref a3), (4, .int x4)]) [0, 1, 2, 3, 4] rfl ?_
      exact w_L_law_1386 hC hX hk23 hF
    · have hF := it_t u825 hF
      refine x_aload_n hC dL_law_1374 3 rfl ?_
      refine x_iconst (v := 0) hC dL_law_1375 (by decide) ?_
      obtain ⟨g823, hF⟩ := gd_e hF
      refine x_lald hC g823.1 g823.2 dL_law_1376 ?_
      refine x_iload hC dL_law_1377 6 rfl ?_
      refine x_i2l hC dL_law_1379 ?_
      refine x_lcmp hC dL_law_1380 ?_
      refine x_if_eq (tgt := 1386) hC dL_law_1381 (by decide) (fun u824 => ?_) (fun u824 => ?_)
      · have hF := it_t u824 hF
        refine X.sub (lv' := [(0, .ref b), (1, .ref a1), (2, .ref a2), (3, .ref a3), (4, .int x4)]) [0, 1, 2, 3, 4] rfl ?_
        exact w_L_law_1386 hC hX hk23 hF
      · have hF := it_f u824 hF
        refine X.sub (lv' := []) [] rfl ?_
        exact w_L_law_1384 hC hX  hF
  · have hF := it_f u826 hF
    refine X.sub (lv' := []) [] rfl ?_
    exact w_L_law_1367 hC hX  hF
theorem w_L_law_1506 {cx : zX} {h0 : AH} (hC : Cx cx RX0 cL_law 8 8192 104096 (some .boolean) h0) {b L : Nat} {xs : Nat → Int32} (hX : zScr cx.G b L xs) {h : AH} {r : (Int32 × AH)} {kh23 : AH → Nat → Nat → Nat → Int32 → Option (Int32 × AH)} (hk23 : ∀ (h : AH) (a1 : Nat) (a2 : Nat) (a3 : Nat) (x4 : Int32), kh23 h a1 a2 a3 x4 = some r → X cx 8 (zQ cx h0 (.inl (some (.int r.1))) r.2) h 23 [(0, .ref b), (1, .ref a1), (2, .ref a2), (3, .ref a3), (4, .int x4)] []) {a1 : Nat} {a2 : Nat} {a3 : Nat} {x4 : Int32} (hF : B_L_law_1506 h L xs kh23 a1 a2 a3 x4 = some r) : X cx 8 (zQ cx h0 (.inl (some (.int r.1))) r.2) h 1506 [(0, .ref b), (1, .ref a1), (2, .ref a2), (3, .ref a3), (4, .int x4)] [] := by
  refine x_goto (tgt := 2923) hC dL_law_1506 (by decide) ?_
  exact w_L_law_2923 hC hX hk23 hF
theorem w_L_law_1504 {cx : zX} {h0 : AH} (hC : Cx cx RX0 cL_law 8 8192 104096 (some .boolean) h0) {b L : Nat} {xs : Nat → Int32} (hX : zScr cx.G b L xs) {h : AH} {r : (Int32 × AH)}    (hF : B_L_law_1504 h L xs   = some r) : X cx 8 (zQ cx h0 (.inl (some (.int r.1))) r.2) h 1504 [] [] := by
  refine x_iconst (v := 0) hC dL_law_1504 (by decide) ?_
  have e := some_e hF
  subst e
  exact x_zret (ty := .boolean) hC (bl_n (Or.inl rfl)) dL_law_1505
theorem w_L_law_1487 {cx : zX} {h0 : AH} (hC : Cx cx RX0 cL_law 8 8192 104096 (some .boolean) h0) {b L : Nat} {xs : Nat → Int32} (hX : zScr cx.G b L xs) {h : AH} {r : (Int32 × AH)}    (hF : B_L_law_1487 h L xs   = some r) : X cx 8 (zQ cx h0 (.inl (some (.int r.1))) r.2) h 1487 [] [] := by
  refine x_iconst (v := 0) hC dL_law_1487 (by decide) ?_
  have e := some_e hF
  subst e
  exact x_zret (ty := .boolean) hC (bl_n (Or.inl rfl)) dL_law_1488
theorem w_L_law_1473 {cx : zX} {h0 : AH} (hC : Cx cx RX0 cL_law 8 8192 104096 (some .boolean) h0) {b L : Nat} {xs : Nat → Int32} (hX : zScr cx.G b L xs) {h : AH} {r : (Int32 × AH)} {kh23 : AH → Nat → Nat → Nat → Int32 → Option (Int32 × AH)} (hk23 : ∀ (h : AH) (a1 : Nat) (a2 : Nat) (a3 : Nat) (x4 : Int32), kh23 h a1 a2 a3 x4 = some r → X cx 8 (zQ cx h0 (.inl (some (.int r.1))) r.2) h 23 [(0, .ref b), (1, .ref a1), (2, .ref a2), (3, .ref a3), (4, .int x4)] []) {a1 : Nat} {a2 : Nat} {a3 : Nat} {x4 : Int32} {x5 : Int32} {t0 : Int32} {t1 : Int32} {t2 : Int32} {t3 : Int32} {t4 : Int32} {t5 : Nat} (hF : B_L_law_1473 h L xs kh23 a1 a2 a3 x4 x5 t0 t1 t2 t3 t4 t5 = some r) : X cx 8 (zQ cx h0 (.inl (some (.int r.1))) r.2) h 1473 [(0, .ref b), (1, .ref a1), (2, .ref a2), (3, .ref a3), (4, .int x4), (5, .int x5)] [.int t0, .int t1, .int t2, .int t3, .int t4, .ref t5] := by
  obtain ⟨g827, hF⟩ := gd_e hF
  obtain ⟨r828, e829, hF⟩ := bd_e hF
  refine xk_V (κ := 8) (As := [.int t4, .int t3, .int t2, .int t1, .int t0]) (st := []) hC (m_X8_gain hC.fl e829) g827 rfl q2239 q2240 q2241 q2242 q107 hy_X8_gain ⟨Nat.le_of_ble_eq_true rfl, Nat.le_of_ble_eq_true rfl⟩ (Nat.le_of_ble_eq_true rfl) rfl dL_law_1473 ?_
  refine x_istore (lv' := [(0, .ref b), (1, .ref a1), (2, .ref a2), (3, .ref a3), (4, .int x4), (5, .int x5), (6, .int r828.1)]) hC dL_law_1476 (by decide) [1, 2, 3, 4, 5, 6, 0] rfl ?_
  refine x_aload_n hC dL_law_1478 2 rfl ?_
  obtain ⟨g830, hF⟩ := gd_e hF
  obtain ⟨r831, e832, hF⟩ := bd_e hF
  refine xk_V (κ := 8) (As := []) (st := []) hC (m_X8_thrown hC.fl e832) g830 rfl q1950 q1951 q1952 q1953 q107 hy_X8_thrown ⟨Nat.le_of_ble_eq_true rfl, Nat.le_of_ble_eq_true rfl⟩ (Nat.le_of_ble_eq_true rfl) rfl dL_law_1479 ?_
  refine x_iload hC dL_law_1482 5 rfl ?_
  refine x_icmp_eq (tgt := 1489) hC dL_law_1484 (by decide) (fun u836 => ?_) (fun u836 => ?_)
  · have hF := it_t u836 hF
    refine x_iload hC dL_law_1489 5 rfl ?_
    refine x_if_ne (tgt := 1506) hC dL_law_1491 (by decide) (fun u835 => ?_) (fun u835 => ?_)
    · have hF := it_f u835 hF
      refine X.sub (lv' := [(0, .ref b), (1, .ref a1), (2, .ref a2), (3, .ref a3), (4, .int x4)]) [0, 1, 2, 3, 4] rfl ?_
      exact w_L_law_1506 hC hX hk23 hF
    · have hF := it_t u835 hF
      refine x_aload_n hC dL_law_1494 3 rfl ?_
      refine x_iconst (v := 0) hC dL_law_1495 (by decide) ?_
      obtain ⟨g833, hF⟩ := gd_e hF
      refine x_lald hC g833.1 g833.2 dL_law_1496 ?_
      refine x_iload hC dL_law_1497 6 rfl ?_
      refine x_i2l hC dL_law_1499 ?_
      refine x_lcmp hC dL_law_1500 ?_
      refine x_if_eq (tgt := 1506) hC dL_law_1501 (by decide) (fun u834 => ?_) (fun u834 => ?_)
      · have hF := it_t u834 hF
        refine X.sub (lv' := [(0, .ref b), (1, .ref a1), (2, .ref a2), (3, .ref a3), (4, .int x4)]) [0, 1, 2, 3, 4] rfl ?_
        exact w_L_law_1506 hC hX hk23 hF
      · have hF := it_f u834 hF
        refine X.sub (lv' := []) [] rfl ?_
        exact w_L_law_1504 hC hX  hF
  · have hF := it_f u836 hF
    refine X.sub (lv' := []) [] rfl ?_
    exact w_L_law_1487 hC hX  hF
theorem w_L_law_1428 {cx : zX} {h0 : AH} (hC : Cx cx RX0 cL_law 8 8192 104096 (some .boolean) h0) {b L : Nat} {xs : Nat → Int32} (hX : zScr cx.G b L xs) {h : AH} {r : (Int32 × AH)} {kh23 : AH → Nat → Nat → Nat → Int32 → Option (Int32 × AH)} (hk23 : ∀ (h : AH) (a1 : Nat) (a2 : Nat) (a3 : Nat) (x4 : Int32), kh23 h a1 a2 a3 x4 = some r → X cx 8 (zQ cx h0 (.inl (some (.int r.1))) r.2) h 23 [(0, .ref b), (1, .ref a1), (2, .ref a2), (3, .ref a3), (4, .int x4)] []) {a1 : Nat} {a2 : Nat} {a3 : Nat} {x4 : Int32} {t0 : Int32} {t1 : Int32} {t2 : Int32} {t3 : Int32} {t4 : Int32} {t5 : Nat} (hF : B_L_law_1428 h L xs kh23 a1 a2 a3 x4 t0 t1 t2 t3 t4 t5 = some r) : X cx 8 (zQ cx h0 (.inl (some (.int r.1))) r.2) h 1428 [(0, .ref b), (1, .ref a1), (2, .ref a2), (3, .ref a3), (4, .int x4)] [.int t0, .int t1, .int t2, .int t3, .int t4, .ref t5] := by
  refine x_aload_n hC dL_law_1428 3 rfl ?_
  obtain ⟨r837, e838, hF⟩ := bd_e hF
  refine xk_SW (As := [.ref t5, .int t4, .int t3, .int t2, .int t1, .int t0, .ref a3]) (st := []) hC (m_X0_gain hC.fl e838) q1498 q1499 q1500 q96 hy_X0_gain ⟨Nat.le_of_ble_eq_true rfl, Nat.le_of_ble_eq_true rfl⟩ (Nat.le_of_ble_eq_true rfl) rfl dL_law_1429 ?_
  refine x_istore (lv' := [(0, .ref b), (1, .ref a1), (2, .ref a2), (3, .ref a3), (4, .int x4), (5, .int r837.1)]) hC dL_law_1432 (by decide) [1, 2, 3, 4, 5, 0] rfl ?_
  refine x_aload_n hC dL_law_1434 2 rfl ?_
  refine x_aload_n hC dL_law_1435 0 rfl ?_
  refine x_iload hC dL_law_1436 4 rfl ?_
  refine x_iconst (v := 1) hC dL_law_1438 (by decide) ?_
  refine x_iadd hC dL_law_1439 ?_
  obtain ⟨g839, hF⟩ := gd_e hF
  refine x_sld hC hX g839 dL_law_1440 ?_
  refine x_aload_n hC dL_law_1441 0 rfl ?_
  refine x_iload hC dL_law_1442 4 rfl ?_
  refine x_iconst (v := 2) hC dL_law_1444 (by decide) ?_
  refine x_iadd hC dL_law_1445 ?_
  obtain ⟨g840, hF⟩ := gd_e hF
  refine x_sld hC hX g840 dL_law_1446 ?_
  refine x_aload_n hC dL_law_1447 0 rfl ?_
  refine x_iload hC dL_law_1448 4 rfl ?_
  refine x_iconst (v := 3) hC dL_law_1450 (by decide) ?_
  refine x_iadd hC dL_law_1451 ?_
  obtain ⟨g841, hF⟩ := gd_e hF
  refine x_sld hC hX g841 dL_law_1452 ?_
  refine x_aload_n hC dL_law_1453 0 rfl ?_
  refine x_iload hC dL_law_1454 4 rfl ?_
  refine x_iconst (v := 4) hC dL_law_1456 (by decide) ?_
  refine x_iadd hC dL_law_1457 ?_
  obtain ⟨g842, hF⟩ := gd_e hF
  refine x_sld hC hX g842 dL_law_1458 ?_
  refine x_aload_n hC dL_law_1459 0 rfl ?_
  refine x_iload hC dL_law_1460 4 rfl ?_
  refine x_iconst (v := 5) hC dL_law_1462 (by decide) ?_
  refine x_iadd hC dL_law_1463 ?_
  obtain ⟨g843, hF⟩ := gd_e hF
  refine x_sld hC hX g843 dL_law_1464 ?_
  refine x_if_eq (tgt := 1472) hC dL_law_1465 (by decide) (fun u844 => ?_) (fun u844 => ?_)
  · have hF := it_t u844 hF
    refine x_iconst (v := 0) hC dL_law_1472 (by decide) ?_
    exact w_L_law_1473 hC hX hk23 hF
  · have hF := it_f u844 hF
    refine x_iconst (v := 1) hC dL_law_1468 (by decide) ?_
    refine x_goto (tgt := 1473) hC dL_law_1469 (by decide) ?_
    exact w_L_law_1473 hC hX hk23 hF
theorem w_L_law_1389 {cx : zX} {h0 : AH} (hC : Cx cx RX0 cL_law 8 8192 104096 (some .boolean) h0) {b L : Nat} {xs : Nat → Int32} (hX : zScr cx.G b L xs) {h : AH} {r : (Int32 × AH)} {kh23 : AH → Nat → Nat → Nat → Int32 → Option (Int32 × AH)} (hk23 : ∀ (h : AH) (a1 : Nat) (a2 : Nat) (a3 : Nat) (x4 : Int32), kh23 h a1 a2 a3 x4 = some r → X cx 8 (zQ cx h0 (.inl (some (.int r.1))) r.2) h 23 [(0, .ref b), (1, .ref a1), (2, .ref a2), (3, .ref a3), (4, .int x4)] []) {a1 : Nat} {a2 : Nat} {a3 : Nat} {x4 : Int32} (hF : B_L_law_1389 h L xs kh23 a1 a2 a3 x4 = some r) : X cx 8 (zQ cx h0 (.inl (some (.int r.1))) r.2) h 1389 [(0, .ref b), (1, .ref a1), (2, .ref a2), (3, .ref a3), (4, .int x4)] [] := by
  refine x_aload_n hC dL_law_1389 1 rfl ?_
  refine x_aload_n hC dL_law_1390 0 rfl ?_
  refine x_iload hC dL_law_1391 4 rfl ?_
  refine x_iconst (v := 1) hC dL_law_1393 (by decide) ?_
  refine x_iadd hC dL_law_1394 ?_
  obtain ⟨g845, hF⟩ := gd_e hF
  refine x_sld hC hX g845 dL_law_1395 ?_
  refine x_aload_n hC dL_law_1396 0 rfl ?_
  refine x_iload hC dL_law_1397 4 rfl ?_
  refine x_iconst (v := 2) hC dL_law_1399 (by decide) ?_
  refine x_iadd hC dL_law_1400 ?_
  obtain ⟨g846, hF⟩ := gd_e hF
  refine x_sld hC hX g846 dL_law_1401 ?_
  refine x_aload_n hC dL_law_1402 0 rfl ?_
  refine x_iload hC dL_law_1403 4 rfl ?_
  refine x_iconst (v := 3) hC dL_law_1405 (by decide) ?_
  refine x_iadd hC dL_law_1406 ?_
  obtain ⟨g847, hF⟩ := gd_e hF
  refine x_sld hC hX g847 dL_law_1407 ?_
  refine x_aload_n hC dL_law_1408 0 rfl ?_
  refine x_iload hC dL_law_1409 4 rfl ?_
  refine x_iconst (v := 4) hC dL_law_1411 (by decide) ?_
  refine x_iadd hC dL_law_1412 ?_
  obtain ⟨g848, hF⟩ := gd_e hF
  refine x_sld hC hX g848 dL_law_1413 ?_
  refine x_aload_n hC dL_law_1414 0 rfl ?_
  refine x_iload hC dL_law_1415 4 rfl ?_
  refine x_iconst (v := 5) hC dL_law_1417 (by decide) ?_
  refine x_iadd hC dL_law_1418 ?_
  obtain ⟨g849, hF⟩ := gd_e hF
  refine x_sld hC hX g849 dL_law_1419 ?_
  refine x_if_eq (tgt := 1427) hC dL_law_1420 (by decide) (fun u850 => ?_) (fun u850 => ?_)
  · have hF := it_t u850 hF
    refine x_iconst (v := 0) hC dL_law_1427 (by decide) ?_
    exact w_L_law_1428 hC hX hk23 hF
  · have hF := it_f u850 hF
    refine x_iconst (v := 1) hC dL_law_1423 (by decide) ?_
    refine x_goto (tgt := 1428) hC dL_law_1424 (by decide) ?_
    exact w_L_law_1428 hC hX hk23 hF
theorem w_L_law_1586 {cx : zX} {h0 : AH} (hC : Cx cx RX0 cL_law 8 8192 104096 (some .boolean) h0) {b L : Nat} {xs : Nat → Int32} (hX : zScr cx.G b L xs) {h : AH} {r : (Int32 × AH)} {kh23 : AH → Nat → Nat → Nat → Int32 → Option (Int32 × AH)} (hk23 : ∀ (h : AH) (a1 : Nat) (a2 : Nat) (a3 : Nat) (x4 : Int32), kh23 h a1 a2 a3 x4 = some r → X cx 8 (zQ cx h0 (.inl (some (.int r.1))) r.2) h 23 [(0, .ref b), (1, .ref a1), (2, .ref a2), (3, .ref a3), (4, .int x4)] []) {a1 : Nat} {a2 : Nat} {a3 : Nat} {x4 : Int32} (hF : B_L_law_1586 h L xs kh23 a1 a2 a3 x4 = some r) : X cx 8 (zQ cx h0 (.inl (some (.int r.1))) r.2) h 1586 [(0, .ref b), (1, .ref a1), (2, .ref a2), (3, .ref a3), (4, .int x4)] [] := by
  refine x_goto (tgt := 2923) hC dL_law_1586 (by decide) ?_
  exact w_L_law_2923 hC hX hk23 hF
theorem w_L_law_1584 {cx : zX} {h0 : AH} (hC : Cx cx RX0 cL_law 8 8192 104096 (some .boolean) h0) {b L : Nat} {xs : Nat → Int32} (hX : zScr cx.G b L xs) {h : AH} {r : (Int32 × AH)}    (hF : B_L_law_1584 h L xs   = some r) : X cx 8 (zQ cx h0 (.inl (some (.int r.1))) r.2) h 1584 [] [] := by
  refine x_iconst (v := 0) hC dL_law_1584 (by decide) ?_
  have e := some_e hF
  subst e
  exact x_zret (ty := .boolean) hC (bl_n (Or.inl rfl)) dL_law_1585
theorem w_L_law_1567 {cx : zX} {h0 : AH} (hC : Cx cx RX0 cL_law 8 8192 104096 (some .boolean) h0) {b L : Nat} {xs : Nat → Int32} (hX : zScr cx.G b L xs) {h : AH} {r : (Int32 × AH)}    (hF : B_L_law_1567 h L xs   = some r) : X cx 8 (zQ cx h0 (.inl (some (.int r.1))) r.2) h 1567 [] [] := by
  refine x_iconst (v := 0) hC dL_law_1567 (by decide) ?_
  have e := some_e hF
  subst e
  exact x_zret (ty := .boolean) hC (bl_n (Or.inl rfl)) dL_law_1568
theorem w_L_law_1509 {cx : zX} {h0 : AH} (hC : Cx cx RX0 cL_law 8 8192 104096 (some .boolean) h0) {b L : Nat} {xs : Nat → Int32} (hX : zScr cx.G b L xs) {h : AH} {r : (Int32 × AH)} {kh23 : AH → Nat → Nat → Nat → Int32 → Option (Int32 × AH)} (hk23 : ∀ (h : AH) (a1 : Nat) (a2 : Nat) (a3 : Nat) (x4 : Int32), kh23 h a1 a2 a3 x4 = some r → X cx 8 (zQ cx h0 (.inl (some (.int r.1))) r.2) h 23 [(0, .ref b), (1, .ref a1), (2, .ref a2), (3, .ref a3), (4, .int x4)] []) {a1 : Nat} {a2 : Nat} {a3 : Nat} {x4 : Int32} (hF : B_L_law_1509 h L xs kh23 a1 a2 a3 x4 = some r) : X cx 8 (zQ cx h0 (.inl (some (.int r.1))) r.2) h 1509 [(0, .ref b), (1, .ref a1), (2, .ref a2), (3, .ref a3), (4, .int x4)] [] := by
  refine x_aload_n hC dL_law_1509 1 rfl ?_
  refine x_aload_n hC dL_law_1510 0 rfl ?_
  refine x_iload hC dL_law_1511 4 rfl ?_
  refine x_iconst (v := 1) hC dL_law_1513 (by decide) ?_
  refine x_iadd hC dL_law_1514 ?_
  obtain ⟨g851, hF⟩ := gd_e hF
  refine x_sld hC hX g851 dL_law_1515 ?_
  refine x_aload_n hC dL_law_1516 0 rfl ?_
  refine x_iload hC dL_law_1517 4 rfl ?_
  refine x_iconst (v := 2) hC dL_law_1519 (by decide) ?_
  refine x_iadd hC dL_law_1520 ?_
  obtain ⟨g852, hF⟩ := gd_e hF
  refine x_sld hC hX g852 dL_law_1521 ?_
  refine x_aload_n hC dL_law_1522 0 rfl ?_
  refine x_iload hC dL_law_1523 4 rfl ?_
  refine x_iconst (v := 3) hC dL_law_1525 (by decide) ?_
  refine x_iadd hC dL_law_1526 ?_
  obtain ⟨g853, hF⟩ := gd_e hF
  refine x_sld hC hX g853 dL_law_1527 ?_
  refine x_aload_n hC dL_law_1528 3 rfl ?_
  obtain ⟨r854, e855, hF⟩ := bd_e hF
  refine xk_SW (As := [.ref a1, .int (xs (ix (x4 + 1))), .int (xs (ix (x4 + 2))), .int (xs (ix (x4 + 3))), .ref a3]) (st := []) hC (m_X0_reply hC.fl e855) q1567 q1568 q1569 q96 hy_X0_reply ⟨Nat.le_of_ble_eq_true rfl, Nat.le_of_ble_eq_true rfl⟩ (Nat.le_of_ble_eq_true rfl) rfl dL_law_1529 ?_
  refine x_istore (lv' := [(0, .ref b), (1, .ref a1), (2, .ref a2), (3, .ref a3), (4, .int x4), (5, .int r854.1)]) hC dL_law_1532 (by decide) [1, 2, 3, 4, 5, 0] rfl ?_
  refine x_aload_n hC dL_law_1534 2 rfl ?_
  refine x_aload_n hC dL_law_1535 0 rfl ?_
  refine x_iload hC dL_law_1536 4 rfl ?_
  refine x_iconst (v := 1) hC dL_law_1538 (by decide) ?_
  refine x_iadd hC dL_law_1539 ?_
  obtain ⟨g856, hF⟩ := gd_e hF
  refine x_sld hC hX g856 dL_law_1540 ?_
  refine x_aload_n hC dL_law_1541 0 rfl ?_
  refine x_iload hC dL_law_1542 4 rfl ?_
  refine x_iconst (v := 2) hC dL_law_1544 (by decide) ?_
  refine x_iadd hC dL_law_1545 ?_
  obtain ⟨g857, hF⟩ := gd_e hF
  refine x_sld hC hX g857 dL_law_1546 ?_
  refine x_aload_n hC dL_law_1547 0 rfl ?_
  refine x_iload hC dL_law_1548 4 rfl ?_
  refine x_iconst (v := 3) hC dL_law_1550 (by decide) ?_
  refine x_iadd hC dL_law_1551 ?_
  obtain ⟨g858, hF⟩ := gd_e hF
  refine x_sld hC hX g858 dL_law_1552 ?_
  obtain ⟨g859, hF⟩ := gd_e hF
  obtain ⟨r860, e861, hF⟩ := bd_e hF
  refine xk_V (κ := 8) (As := [.int (xs (ix (x4 + 1))), .int (xs (ix (x4 + 2))), .int (xs (ix (x4 + 3)))]) (st := []) hC (m_X8_reply hC.fl e861) g859 rfl q2263 q2264 q2265 q2266 q107 hy_X8_reply ⟨Nat.le_of_ble_eq_true rfl, Nat.le_of_ble_eq_true rfl⟩ (Nat.le_of_ble_eq_true rfl) rfl dL_law_1553 ?_
  refine x_istore (lv' := [(0, .ref b), (1, .ref a1), (2, .ref a2), (3, .ref a3), (4, .int x4), (5, .int r854.1), (6, .int r860.1)]) hC dL_law_1556 (by decide) [1, 2, 3, 4, 5, 6, 0] rfl ?_
  refine x_aload_n hC dL_law_1558 2 rfl ?_
  obtain ⟨g862, hF⟩ := gd_e hF
  obtain ⟨r863, e864, hF⟩ := bd_e hF
  refine xk_V (κ := 8) (As := []) (st := []) hC (m_X8_thrown hC.fl e864) g862 rfl q1950 q1951 q1952 q1953 q107 hy_X8_thrown ⟨Nat.le_of_ble_eq_true rfl, Nat.le_of_ble_eq_true rfl⟩ (Nat.le_of_ble_eq_true rfl) rfl dL_law_1559 ?_
  refine x_iload hC dL_law_1562 5 rfl ?_
  refine x_icmp_eq (tgt := 1569) hC dL_law_1564 (by decide) (fun u868 => ?_) (fun u868 => ?_)
  · have hF := it_t u868 hF
    refine x_iload hC dL_law_1569 5 rfl ?_
    refine x_if_ne (tgt := 1586) hC dL_law_1571 (by decide) (fun u867 => ?_) (fun u867 => ?_)
    · have hF := it_f u867 hF
      refine X.sub (lv' := [(0, .ref b), (1, .ref a1), (2, .ref a2), (3, .ref a3), (4, .int x4)]) [0, 1, 2, 3, 4] rfl ?_
      exact w_L_law_1586 hC hX hk23 hF
    · have hF := it_t u867 hF
      refine x_aload_n hC dL_law_1574 3 rfl ?_
      refine x_iconst (v := 0) hC dL_law_1575 (by decide) ?_
      obtain ⟨g865, hF⟩ := gd_e hF
      refine x_lald hC g865.1 g865.2 dL_law_1576 ?_
      refine x_iload hC dL_law_1577 6 rfl ?_
      refine x_i2l hC dL_law_1579 ?_
      refine x_lcmp hC dL_law_1580 ?_
      refine x_if_eq (tgt := 1586) hC dL_law_1581 (by decide) (fun u866 => ?_) (fun u866 => ?_)
      · have hF := it_t u866 hF
        refine X.sub (lv' := [(0, .ref b), (1, .ref a1), (2, .ref a2), (3, .ref a3), (4, .int x4)]) [0, 1, 2, 3, 4] rfl ?_
        exact w_L_law_1586 hC hX hk23 hF
      · have hF := it_f u866 hF
        refine X.sub (lv' := []) [] rfl ?_
        exact w_L_law_1584 hC hX  hF
  · have hF := it_f u868 hF
    refine X.sub (lv' := []) [] rfl ?_
    exact w_L_law_1567 hC hX  hF
theorem w_L_law_1666 {cx : zX} {h0 : AH} (hC : Cx cx RX0 cL_law 8 8192 104096 (some .boolean) h0) {b L : Nat} {xs : Nat → Int32} (hX : zScr cx.G b L xs) {h : AH} {r : (Int32 × AH)} {kh23 : AH → Nat → Nat → Nat → Int32 → Option (Int32 × AH)} (hk23 : ∀ (h : AH) (a1 : Nat) (a2 : Nat) (a3 : Nat) (x4 : Int32), kh23 h a1 a2 a3 x4 = some r → X cx 8 (zQ cx h0 (.inl (some (.int r.1))) r.2) h 23 [(0, .ref b), (1, .ref a1), (2, .ref a2), (3, .ref a3), (4, .int x4)] []) {a1 : Nat} {a2 : Nat} {a3 : Nat} {x4 : Int32} (hF : B_L_law_1666 h L xs kh23 a1 a2 a3 x4 = some r) : X cx 8 (zQ cx h0 (.inl (some (.int r.1))) r.2) h 1666 [(0, .ref b), (1, .ref a1), (2, .ref a2), (3, .ref a3), (4, .int x4)] [] := by
  refine x_goto (tgt := 2923) hC dL_law_1666 (by decide) ?_
  exact w_L_law_2923 hC hX hk23 hF
theorem w_L_law_1664 {cx : zX} {h0 : AH} (hC : Cx cx RX0 cL_law 8 8192 104096 (some .boolean) h0) {b L : Nat} {xs : Nat → Int32} (hX : zScr cx.G b L xs) {h : AH} {r : (Int32 × AH)}    (hF : B_L_law_1664 h L xs   = some r) : X cx 8 (zQ cx h0 (.inl (some (.int r.1))) r.2) h 1664 [] [] := by
  refine x_iconst (v := 0) hC dL_law_1664 (by decide) ?_
  have e := some_e hF
  subst e
  exact x_zret (ty := .boolean) hC (bl_n (Or.inl rfl)) dL_law_1665
theorem w_L_law_1647 {cx : zX} {h0 : AH} (hC : Cx cx RX0 cL_law 8 8192 104096 (some .boolean) h0) {b L : Nat} {xs : Nat → Int32} (hX : zScr cx.G b L xs) {h : AH} {r : (Int32 × AH)}    (hF : B_L_law_1647 h L xs   = some r) : X cx 8 (zQ cx h0 (.inl (some (.int r.1))) r.2) h 1647 [] [] := by
  refine x_iconst (v := 0) hC dL_law_1647 (by decide) ?_
  have e := some_e hF
  subst e
  exact x_zret (ty := .boolean) hC (bl_n (Or.inl rfl)) dL_law_1648
theorem w_L_law_1589 {cx : zX} {h0 : AH} (hC : Cx cx RX0 cL_law 8 8192 104096 (some .boolean) h0) {b L : Nat} {xs : Nat → Int32} (hX : zScr cx.G b L xs) {h : AH} {r : (Int32 × AH)} {kh23 : AH → Nat → Nat → Nat → Int32 → Option (Int32 × AH)} (hk23 : ∀ (h : AH) (a1 : Nat) (a2 : Nat) (a3 : Nat) (x4 : Int32), kh23 h a1 a2 a3 x4 = some r → X cx 8 (zQ cx h0 (.inl (some (.int r.1))) r.2) h 23 [(0, .ref b), (1, .ref a1), (2, .ref a2), (3, .ref a3), (4, .int x4)] []) {a1 : Nat} {a2 : Nat} {a3 : Nat} {x4 : Int32} (hF : B_L_law_1589 h L xs kh23 a1 a2 a3 x4 = some r) : X cx 8 (zQ cx h0 (.inl (some (.int r.1))) r.2) h 1589 [(0, .ref b), (1, .ref a1), (2, .ref a2), (3, .ref a3), (4, .int x4)] [] := by
  refine x_aload_n hC dL_law_1589 1 rfl ?_
  refine x_aload_n hC dL_law_1590 0 rfl ?_
  refine x_iload hC dL_law_1591 4 rfl ?_
  refine x_iconst (v := 1) hC dL_law_1593 (by decide) ?_
  refine x_iadd hC dL_law_1594 ?_
  obtain ⟨g869, hF⟩ := gd_e hF
  refine x_sld hC hX g869 dL_law_1595 ?_
  refine x_aload_n hC dL_law_1596 0 rfl ?_
  refine x_iload hC dL_law_1597 4 rfl ?_
  refine x_iconst (v := 2) hC dL_law_1599 (by decide) ?_
  refine x_iadd hC dL_law_1600 ?_
  obtain ⟨g870, hF⟩ := gd_e hF
  refine x_sld hC hX g870 dL_law_1601 ?_
  refine x_aload_n hC dL_law_1602 0 rfl ?_
  refine x_iload hC dL_law_1603 4 rfl ?_
  refine x_iconst (v := 3) hC dL_law_1605 (by decide) ?_
  refine x_iadd hC dL_law_1606 ?_
  obtain ⟨g871, hF⟩ := gd_e hF
  refine x_sld hC hX g871 dL_law_1607 ?_
  refine x_aload_n hC dL_law_1608 3 rfl ?_
  obtain ⟨r872, e873, hF⟩ := bd_e hF
  refine xk_SW (As := [.ref a1, .int (xs (ix (x4 + 1))), .int (xs (ix (x4 + 2))), .int (xs (ix (x4 + 3))), .ref a3]) (st := []) hC (m_X0_even hC.fl e873) q1578 q1579 q1580 q96 hy_X0_even ⟨Nat.le_of_ble_eq_true rfl, Nat.le_of_ble_eq_true rfl⟩ (Nat.le_of_ble_eq_true rfl) rfl dL_law_1609 ?_
  refine x_istore (lv' := [(0, .ref b), (1, .ref a1), (2, .ref a2), (3, .ref a3), (4, .int x4), (5, .int r872.1)]) hC dL_law_1612 (by decide) [1, 2, 3, 4, 5, 0] rfl ?_
  refine x_aload_n hC dL_law_1614 2 rfl ?_
  refine x_aload_n hC dL_law_1615 0 rfl ?_
  refine x_iload hC dL_law_1616 4 rfl ?_
  refine x_iconst (v := 1) hC dL_law_1618 (by decide) ?_
  refine x_iadd hC dL_law_1619 ?_
  obtain ⟨g874, hF⟩ := gd_e hF
  refine x_sld hC hX g874 dL_law_1620 ?_
  refine x_aload_n hC dL_law_1621 0 rfl ?_
  refine x_iload hC dL_law_1622 4 rfl ?_
  refine x_iconst (v := 2) hC dL_law_1624 (by decide) ?_
  refine x_iadd hC dL_law_1625 ?_
  obtain ⟨g875, hF⟩ := gd_e hF
  refine x_sld hC hX g875 dL_law_1626 ?_
  refine x_aload_n hC dL_law_1627 0 rfl ?_
  refine x_iload hC dL_law_1628 4 rfl ?_
  refine x_iconst (v := 3) hC dL_law_1630 (by decide) ?_
  refine x_iadd hC dL_law_1631 ?_
  obtain ⟨g876, hF⟩ := gd_e hF
  refine x_sld hC hX g876 dL_law_1632 ?_
  obtain ⟨g877, hF⟩ := gd_e hF
  obtain ⟨r878, e879, hF⟩ := bd_e hF
  refine xk_V (κ := 8) (As := [.int (xs (ix (x4 + 1))), .int (xs (ix (x4 + 2))), .int (xs (ix (x4 + 3)))]) (st := []) hC (m_X8_even hC.fl e879) g877 rfl q2267 q2268 q2269 q2270 q107 hy_X8_even ⟨Nat.le_of_ble_eq_true rfl, Nat.le_of_ble_eq_true rfl⟩ (Nat.le_of_ble_eq_true rfl) rfl dL_law_1633 ?_
  refine x_istore (lv' := [(0, .ref b), (1, .ref a1), (2, .ref a2), (3, .ref a3), (4, .int x4), (5, .int r872.1), (6, .int r878.1)]) hC dL_law_1636 (by decide) [1, 2, 3, 4, 5, 6, 0] rfl ?_
  refine x_aload_n hC dL_law_1638 2 rfl ?_
  obtain ⟨g880, hF⟩ := gd_e hF
  obtain ⟨r881, e882, hF⟩ := bd_e hF
  refine xk_V (κ := 8) (As := []) (st := []) hC (m_X8_thrown hC.fl e882) g880 rfl q1950 q1951 q1952 q1953 q107 hy_X8_thrown ⟨Nat.le_of_ble_eq_true rfl, Nat.le_of_ble_eq_true rfl⟩ (Nat.le_of_ble_eq_true rfl) rfl dL_law_1639 ?_
  refine x_iload hC dL_law_1642 5 rfl ?_
  refine x_icmp_eq (tgt := 1649) hC dL_law_1644 (by decide) (fun u886 => ?_) (fun u886 => ?_)
  · have hF := it_t u886 hF
    refine x_iload hC dL_law_1649 5 rfl ?_
    refine x_if_ne (tgt := 1666) hC dL_law_1651 (by decide) (fun u885 => ?_) (fun u885 => ?_)
    · have hF := it_f u885 hF
      refine X.sub (lv' := [(0, .ref b), (1, .ref a1), (2, .ref a2), (3, .ref a3), (4, .int x4)]) [0, 1, 2, 3, 4] rfl ?_
      exact w_L_law_1666 hC hX hk23 hF
    · have hF := it_t u885 hF
      refine x_aload_n hC dL_law_1654 3 rfl ?_
      refine x_iconst (v := 0) hC dL_law_1655 (by decide) ?_
      obtain ⟨g883, hF⟩ := gd_e hF
      refine x_lald hC g883.1 g883.2 dL_law_1656 ?_
      refine x_iload hC dL_law_1657 6 rfl ?_
      refine x_i2l hC dL_law_1659 ?_
      refine x_lcmp hC dL_law_1660 ?_
      refine x_if_eq (tgt := 1666) hC dL_law_1661 (by decide) (fun u884 => ?_) (fun u884 => ?_)
      · have hF := it_t u884 hF
        refine X.sub (lv' := [(0, .ref b), (1, .ref a1), (2, .ref a2), (3, .ref a3), (4, .int x4)]) [0, 1, 2, 3, 4] rfl ?_
        exact w_L_law_1666 hC hX hk23 hF
      · have hF := it_f u884 hF
        refine X.sub (lv' := []) [] rfl ?_
        exact w_L_law_1664 hC hX  hF
  · have hF := it_f u886 hF
    refine X.sub (lv' := []) [] rfl ?_
    exact w_L_law_1647 hC hX  hF
theorem w_L_law_1734 {cx : zX} {h0 : AH} (hC : Cx cx RX0 cL_law 8 8192 104096 (some .boolean) h0) {b L : Nat} {xs : Nat → Int32} (hX : zScr cx.G b L xs) {h : AH} {r : (Int32 × AH)} {kh23 : AH → Nat → Nat → Nat → Int32 → Option (Int32 × AH)} (hk23 : ∀ (h : AH) (a1 : Nat) (a2 : Nat) (a3 : Nat) (x4 : Int32), kh23 h a1 a2 a3 x4 = some r → X cx 8 (zQ cx h0 (.inl (some (.int r.1))) r.2) h 23 [(0, .ref b), (1, .ref a1), (2, .ref a2), (3, .ref a3), (4, .int x4)] []) {a1 : Nat} {a2 : Nat} {a3 : Nat} {x4 : Int32} (hF : B_L_law_1734 h L xs kh23 a1 a2 a3 x4 = some r) : X cx 8 (zQ cx h0 (.inl (some (.int r.1))) r.2) h 1734 [(0, .ref b), (1, .ref a1), (2, .ref a2), (3, .ref a3), (4, .int x4)] [] := by
  refine x_goto (tgt := 2923) hC dL_law_1734 (by decide) ?_
  exact w_L_law_2923 hC hX hk23 hF
theorem w_L_law_1732 {cx : zX} {h0 : AH} (hC : Cx cx RX0 cL_law 8 8192 104096 (some .boolean) h0) {b L : Nat} {xs : Nat → Int32} (hX : zScr cx.G b L xs) {h : AH} {r : (Int32 × AH)}    (hF : B_L_law_1732 h L xs   = some r) : X cx 8 (zQ cx h0 (.inl (some (.int r.1))) r.2) h 1732 [] [] := by
  refine x_iconst (v := 0) hC dL_law_1732 (by decide) ?_
  have e := some_e hF
  subst e
  exact x_zret (ty := .boolean) hC (bl_n (Or.inl rfl)) dL_law_1733
theorem w_L_law_1715 {cx : zX} {h0 : AH} (hC : Cx cx RX0 cL_law 8 8192 104096 (some .boolean) h0) {b L : Nat} {xs : Nat → Int32} (hX : zScr cx.G b L xs) {h : AH} {r : (Int32 × AH)}    (hF : B_L_law_1715 h L xs   = some r) : X cx 8 (zQ cx h0 (.inl (some (.int r.1))) r.2) h 1715 [] [] := by
  refine x_iconst (v := 0) hC dL_law_1715 (by decide) ?_
  have e := some_e hF
  subst e
  exact x_zret (ty := .boolean) hC (bl_n (Or.inl rfl)) dL_law_1716
theorem w_L_law_1669 {cx : zX} {h0 : AH} (hC : Cx cx RX0 cL_law 8 8192 104096 (some .boolean) h0) {b L : Nat} {xs : Nat → Int32} (hX : zScr cx.G b L xs) {h : AH} {r : (Int32 × AH)} {kh23 : AH → Nat → Nat → Nat → Int32 → Option (Int32 × AH)} (hk23 : ∀ (h : AH) (a1 : Nat) (a2 : Nat) (a3 : Nat) (x4 : Int32), kh23 h a1 a2 a3 x4 = some r → X cx 8 (zQ cx h0 (.inl (some (.int r.1))) r.2) h 23 [(0, .ref b), (1, .ref a1), (2, .ref a2), (3, .ref a3), (4, .int x4)] []) {a1 : Nat} {a2 : Nat} {a3 : Nat} {x4 : Int32} (hF : B_L_law_1669 h L xs kh23 a1 a2 a3 x4 = some r) : X cx 8 (zQ cx h0 (.inl (some (.int r.1))) r.2) h 1669 [(0, .ref b), (1, .ref a1), (2, .ref a2), (3, .ref a3), (4, .int x4)] [] := by
  refine x_aload_n hC dL_law_1669 1 rfl ?_
  refine x_aload_n hC dL_law_1670 0 rfl ?_
  refine x_iload hC dL_law_1671 4 rfl ?_
  refine x_iconst (v := 1) hC dL_law_1673 (by decide) ?_
  refine x_iadd hC dL_law_1674 ?_
  obtain ⟨g887, hF⟩ := gd_e hF
  refine x_sld hC hX g887 dL_law_1675 ?_
  refine x_aload_n hC dL_law_1676 0 rfl ?_
  refine x_iload hC dL_law_1677 4 rfl ?_
  refine x_iconst (v := 2) hC dL_law_1679 (by decide) ?_
  refine x_iadd hC dL_law_1680 ?_
  obtain ⟨g888, hF⟩ := gd_e hF
  refine x_sld hC hX g888 dL_law_1681 ?_
  refine x_aload_n hC dL_law_1682 3 rfl ?_
  obtain ⟨r889, e890, hF⟩ := bd_e hF
  refine xk_SW (As := [.ref a1, .int (xs (ix (x4 + 1))), .int (xs (ix (x4 + 2))), .ref a3]) (st := []) hC (m_X0_joint hC.fl e890) q1593 q1594 q1595 q96 hy_X0_joint ⟨Nat.le_of_ble_eq_true rfl, Nat.le_of_ble_eq_true rfl⟩ (Nat.le_of_ble_eq_true rfl) rfl dL_law_1683 ?_
  refine x_istore (lv' := [(0, .ref b), (1, .ref a1), (2, .ref a2), (3, .ref a3), (4, .int x4), (5, .int r889.1)]) hC dL_law_1686 (by decide) [1, 2, 3, 4, 5, 0] rfl ?_
  refine x_aload_n hC dL_law_1688 2 rfl ?_
  refine x_aload_n hC dL_law_1689 0 rfl ?_
  refine x_iload hC dL_law_1690 4 rfl ?_
  refine x_iconst (v := 1) hC dL_law_1692 (by decide) ?_
  refine x_iadd hC dL_law_1693 ?_
  obtain ⟨g891, hF⟩ := gd_e hF
  refine x_sld hC hX g891 dL_law_1694 ?_
  refine x_aload_n hC dL_law_1695 0 rfl ?_
  refine x_iload hC dL_law_1696 4 rfl ?_
  refine x_iconst (v := 2) hC dL_law_1698 (by decide) ?_
  refine x_iadd hC dL_law_1699 ?_
  obtain ⟨g892, hF⟩ := gd_e hF
  refine x_sld hC hX g892 dL_law_1700 ?_
  obtain ⟨g893, hF⟩ := gd_e hF
  obtain ⟨r894, e895, hF⟩ := bd_e hF
  refine xk_V (κ := 8) (As := [.int (xs (ix (x4 + 1))), .int (xs (ix (x4 + 2)))]) (st := []) hC (m_X8_joint hC.fl e895) g893 rfl q2279 q2280 q2281 q2282 q107 hy_X8_joint ⟨Nat.le_of_ble_eq_true rfl, Nat.le_of_ble_eq_true rfl⟩ (Nat.le_of_ble_eq_true rfl) rfl dL_law_1701 ?_
  refine x_istore (lv' := [(0, .ref b), (1, .ref a1), (2, .ref a2), (3, .ref a3), (4, .int x4), (5, .int r889.1), (6, .int r894.1)]) hC dL_law_1704 (by decide) [1, 2, 3, 4, 5, 6, 0] rfl ?_
  refine x_aload_n hC dL_law_1706 2 rfl ?_
  obtain ⟨g896, hF⟩ := gd_e hF
  obtain ⟨r897, e898, hF⟩ := bd_e hF
  refine xk_V (κ := 8) (As := []) (st := []) hC (m_X8_thrown hC.fl e898) g896 rfl q1950 q1951 q1952 q1953 q107 hy_X8_thrown ⟨Nat.le_of_ble_eq_true rfl, Nat.le_of_ble_eq_true rfl⟩ (Nat.le_of_ble_eq_true rfl) rfl dL_law_1707 ?_
  refine x_iload hC dL_law_1710 5 rfl ?_
  refine x_icmp_eq (tgt := 1717) hC dL_law_1712 (by decide) (fun u902 => ?_) (fun u902 => ?_)
  · have hF := it_t u902 hF
    refine x_iload hC dL_law_1717 5 rfl ?_
    refine x_if_ne (tgt := 1734) hC dL_law_1719 (by decide) (fun u901 => ?_) (fun u901 => ?_)
    · have hF := it_f u901 hF
      refine X.sub (lv' := [(0, .ref b), (1, .ref a1), (2, .ref a2), (3, .ref a3), (4, .int x4)]) [0, 1, 2, 3, 4] rfl ?_
      exact w_L_law_1734 hC hX hk23 hF
    · have hF := it_t u901 hF
      refine x_aload_n hC dL_law_1722 3 rfl ?_
      refine x_iconst (v := 0) hC dL_law_1723 (by decide) ?_
      obtain ⟨g899, hF⟩ := gd_e hF
      refine x_lald hC g899.1 g899.2 dL_law_1724 ?_
      refine x_iload hC dL_law_1725 6 rfl ?_
      refine x_i2l hC dL_law_1727 ?_
      refine x_lcmp hC dL_law_1728 ?_
      refine x_if_eq (tgt := 1734) hC dL_law_1729 (by decide) (fun u900 => ?_) (fun u900 => ?_)
      · have hF := it_t u900 hF
        refine X.sub (lv' := [(0, .ref b), (1, .ref a1), (2, .ref a2), (3, .ref a3), (4, .int x4)]) [0, 1, 2, 3, 4] rfl ?_
        exact w_L_law_1734 hC hX hk23 hF
      · have hF := it_f u900 hF
        refine X.sub (lv' := []) [] rfl ?_
        exact w_L_law_1732 hC hX  hF
  · have hF := it_f u902 hF
    refine X.sub (lv' := []) [] rfl ?_
    exact w_L_law_1715 hC hX  hF
theorem w_L_law_1838 {cx : zX} {h0 : AH} (hC : Cx cx RX0 cL_law 8 8192 104096 (some .boolean) h0) {b L : Nat} {xs : Nat → Int32} (hX : zScr cx.G b L xs) {h : AH} {r : (Int32 × AH)} {kh23 : AH → Nat → Nat → Nat → Int32 → Option (Int32 × AH)} (hk23 : ∀ (h : AH) (a1 : Nat) (a2 : Nat) (a3 : Nat) (x4 : Int32), kh23 h a1 a2 a3 x4 = some r → X cx 8 (zQ cx h0 (.inl (some (.int r.1))) r.2) h 23 [(0, .ref b), (1, .ref a1), (2, .ref a2), (3, .ref a3), (4, .int x4)] []) {a1 : Nat} {a2 : Nat} {a3 : Nat} {x4 : Int32} (hF : B_L_law_1838 h L xs kh23 a1 a2 a3 x4 = some r) : X cx 8 (zQ cx h0 (.inl (some (.int r.1))) r.2) h 1838 [(0, .ref b), (1, .ref a1), (2, .ref a2), (3, .ref a3), (4, .int x4)] [] := by
  refine x_goto (tgt := 2923) hC dL_law_1838 (by decide) ?_
  exact w_L_law_2923 hC hX hk23 hF
theorem w_L_law_1836 {cx : zX} {h0 : AH} (hC : Cx cx RX0 cL_law 8 8192 104096 (some .boolean) h0) {b L : Nat} {xs : Nat → Int32} (hX : zScr cx.G b L xs) {h : AH} {r : (Int32 × AH)}    (hF : B_L_law_1836 h L xs   = some r) : X cx 8 (zQ cx h0 (.inl (some (.int r.1))) r.2) h 1836 [] [] := by
  refine x_iconst (v := 0) hC dL_law_1836 (by decide) ?_
  have e := some_e hF
  subst e
  exact x_zret (ty := .boolean) hC (bl_n (Or.inl rfl)) dL_law_1837
theorem w_L_law_1819 {cx : zX} {h0 : AH} (hC : Cx cx RX0 cL_law 8 8192 104096 (some .boolean) h0) {b L : Nat} {xs : Nat → Int32} (hX : zScr cx.G b L xs) {h : AH} {r : (Int32 × AH)}    (hF : B_L_law_1819 h L xs   = some r) : X cx 8 (zQ cx h0 (.inl (some (.int r.1))) r.2) h 1819 [] [] := by
  refine x_iconst (v := 0) hC dL_law_1819 (by decide) ?_
  have e := some_e hF
  subst e
  exact x_zret (ty := .boolean) hC (bl_n (Or.inl rfl)) dL_law_1820
theorem w_L_law_1737 {cx : zX} {h0 : AH} (hC : Cx cx RX0 cL_law 8 8192 104096 (some .boolean) h0) {b L : Nat} {xs : Nat → Int32} (hX : zScr cx.G b L xs) {h : AH} {r : (Int32 × AH)} {kh23 : AH → Nat → Nat → Nat → Int32 → Option (Int32 × AH)} (hk23 : ∀ (h : AH) (a1 : Nat) (a2 : Nat) (a3 : Nat) (x4 : Int32), kh23 h a1 a2 a3 x4 = some r → X cx 8 (zQ cx h0 (.inl (some (.int r.1))) r.2) h 23 [(0, .ref b), (1, .ref a1), (2, .ref a2), (3, .ref a3), (4, .int x4)] []) {a1 : Nat} {a2 : Nat} {a3 : Nat} {x4 : Int32} (hF : B_L_law_1737 h L xs kh23 a1 a2 a3 x4 = some r) : X cx 8 (zQ cx h0 (.inl (some (.int r.1))) r.2) h 1737 [(0, .ref b), (1, .ref a1), (2, .ref a2), (3, .ref a3), (4, .int x4)] [] := by
  refine x_aload_n hC dL_law_1737 1 rfl ?_
  refine x_aload_n hC dL_law_1738 0 rfl ?_
  refine x_iload hC dL_law_1739 4 rfl ?_
  refine x_iconst (v := 1) hC dL_law_1741 (by decide) ?_
  refine x_iadd hC dL_law_1742 ?_
  obtain ⟨g903, hF⟩ := gd_e hF
  refine x_sld hC hX g903 dL_law_1743 ?_
  refine x_aload_n hC dL_law_1744 0 rfl ?_
  refine x_iload hC dL_law_1745 4 rfl ?_
  refine x_iconst (v := 2) hC dL_law_1747 (by decide) ?_
  refine x_iadd hC dL_law_1748 ?_
  obtain ⟨g904, hF⟩ := gd_e hF
  refine x_sld hC hX g904 dL_law_1749 ?_
  refine x_aload_n hC dL_law_1750 0 rfl ?_
  refine x_iload hC dL_law_1751 4 rfl ?_
  refine x_iconst (v := 3) hC dL_law_1753 (by decide) ?_
  refine x_iadd hC dL_law_1754 ?_
  obtain ⟨g905, hF⟩ := gd_e hF
  refine x_sld hC hX g905 dL_law_1755 ?_
  refine x_aload_n hC dL_law_1756 0 rfl ?_
  refine x_iload hC dL_law_1757 4 rfl ?_
  refine x_iconst (v := 4) hC dL_law_1759 (by decide) ?_
  refine x_iadd hC dL_law_1760 ?_
  obtain ⟨g906, hF⟩ := gd_e hF
  refine x_sld hC hX g906 dL_law_1761 ?_
  refine x_aload_n hC dL_law_1762 0 rfl ?_
  refine x_iload hC dL_law_1763 4 rfl ?_
  refine x_iconst (v := 5) hC dL_law_1765 (by decide) ?_
  refine x_iadd hC dL_law_1766 ?_
  obtain ⟨g907, hF⟩ := gd_e hF
  refine x_sld hC hX g907 dL_law_1767 ?_
  refine x_aload_n hC dL_law_1768 3 rfl ?_
  obtain ⟨r908, e909, hF⟩ := bd_e hF
  refine xk_SW (As := [.ref a1, .int (xs (ix (x4 + 1))), .int (xs (ix (x4 + 2))), .int (xs (ix (x4 + 3))), .int (xs (ix (x4 + 4))), .int (xs (ix (x4 + 5))), .ref a3]) (st := []) hC (m_X0_turn hC.fl e909) q1604 q1605 q1606 q96 hy_X0_turn ⟨Nat.le_of_ble_eq_true rfl, Nat.le_of_ble_eq_true rfl⟩ (Nat.le_of_ble_eq_true rfl) rfl dL_law_1769 ?_
  refine x_istore (lv' := [(0, .ref b), (1, .ref a1), (2, .ref a2), (3, .ref a3), (4, .int x4), (5, .int r908.1)]) hC dL_law_1772 (by decide) [1, 2, 3, 4, 5, 0] rfl ?_
  refine x_aload_n hC dL_law_1774 2 rfl ?_
  refine x_aload_n hC dL_law_1775 0 rfl ?_
  refine x_iload hC dL_law_1776 4 rfl ?_
  refine x_iconst (v := 1) hC dL_law_1778 (by decide) ?_
  refine x_iadd hC dL_law_1779 ?_
  obtain ⟨g910, hF⟩ := gd_e hF
  refine x_sld hC hX g910 dL_law_1780 ?_
  refine x_aload_n hC dL_law_1781 0 rfl ?_
  refine x_iload hC dL_law_1782 4 rfl ?_
  refine x_iconst (v := 2) hC dL_law_1784 (by decide) ?_
  refine x_iadd hC dL_law_1785 ?_
  obtain ⟨g911, hF⟩ := gd_e hF
  refine x_sld hC hX g911 dL_law_1786 ?_
  refine x_aload_n hC dL_law_1787 0 rfl ?_
  refine x_iload hC dL_law_1788 4 rfl ?_
  refine x_iconst (v := 3) hC dL_law_1790 (by decide) ?_
  refine x_iadd hC dL_law_1791 ?_
  obtain ⟨g912, hF⟩ := gd_e hF
  refine x_sld hC hX g912 dL_law_1792 ?_
  refine x_aload_n hC dL_law_1793 0 rfl ?_
  refine x_iload hC dL_law_1794 4 rfl ?_
  refine x_iconst (v := 4) hC dL_law_1796 (by decide) ?_
  refine x_iadd hC dL_law_1797 ?_
  obtain ⟨g913, hF⟩ := gd_e hF
  refine x_sld hC hX g913 dL_law_1798 ?_
  refine x_aload_n hC dL_law_1799 0 rfl ?_
  refine x_iload hC dL_law_1800 4 rfl ?_
  refine x_iconst (v := 5) hC dL_law_1802 (by decide) ?_
  refine x_iadd hC dL_law_1803 ?_
  obtain ⟨g914, hF⟩ := gd_e hF
  refine x_sld hC hX g914 dL_law_1804 ?_
  obtain ⟨g915, hF⟩ := gd_e hF
  obtain ⟨r916, e917, hF⟩ := bd_e hF
  refine xk_V (κ := 8) (As := [.int (xs (ix (x4 + 1))), .int (xs (ix (x4 + 2))), .int (xs (ix (x4 + 3))), .int (xs (ix (x4 + 4))), .int (xs (ix (x4 + 5)))]) (st := []) hC (m_X8_turn hC.fl e917) g915 rfl q2287 q2288 q2289 q2290 q107 hy_X8_turn ⟨Nat.le_of_ble_eq_true rfl, Nat.le_of_ble_eq_true rfl⟩ (Nat.le_of_ble_eq_true rfl) rfl dL_law_1805 ?_
  refine x_istore (lv' := [(0, .ref b), (1, .ref a1), (2, .ref a2), (3, .ref a3), (4, .int x4), (5, .int r908.1), (6, .int r916.1)]) hC dL_law_1808 (by decide) [1, 2, 3, 4, 5, 6, 0] rfl ?_
  refine x_aload_n hC dL_law_1810 2 rfl ?_
  obtain ⟨g918, hF⟩ := gd_e hF
  obtain ⟨r919, e920, hF⟩ := bd_e hF
  refine xk_V (κ := 8) (As := []) (st := []) hC (m_X8_thrown hC.fl e920) g918 rfl q1950 q1951 q1952 q1953 q107 hy_X8_thrown ⟨Nat.le_of_ble_eq_true rfl, Nat.le_of_ble_eq_true rfl⟩ (Nat.le_of_ble_eq_true rfl) rfl dL_law_1811 ?_
  refine x_iload hC dL_law_1814 5 rfl ?_
  refine x_icmp_eq (tgt := 1821) hC dL_law_1816 (by decide) (fun u924 => ?_) (fun u924 => ?_)
  · have hF := it_t u924 hF
    refine x_iload hC dL_law_1821 5 rfl ?_
    refine x_if_ne (tgt := 1838) hC dL_law_1823 (by decide) (fun u923 => ?_) (fun u923 => ?_)
    · have hF := it_f u923 hF
      refine X.sub (lv' := [(0, .ref b), (1, .ref a1), (2, .ref a2), (3, .ref a3), (4, .int x4)]) [0, 1, 2, 3, 4] rfl ?_
      exact w_L_law_1838 hC hX hk23 hF
    · have hF := it_t u923 hF
      refine x_aload_n hC dL_law_1826 3 rfl ?_
      refine x_iconst (v := 0) hC dL_law_1827 (by decide) ?_
      obtain ⟨g921, hF⟩ := gd_e hF
      refine x_lald hC g921.1 g921.2 dL_law_1828 ?_
      refine x_iload hC dL_law_1829 6 rfl ?_
      refine x_i2l hC dL_law_1831 ?_
      refine x_lcmp hC dL_law_1832 ?_
      refine x_if_eq (tgt := 1838) hC dL_law_1833 (by decide) (fun u922 => ?_) (fun u922 => ?_)
      · have hF := it_t u922 hF
        refine X.sub (lv' := [(0, .ref b), (1, .ref a1), (2, .ref a2), (3, .ref a3), (4, .int x4)]) [0, 1, 2, 3, 4] rfl ?_
        exact w_L_law_1838 hC hX hk23 hF
      · have hF := it_f u922 hF
        refine X.sub (lv' := []) [] rfl ?_
        exact w_L_law_1836 hC hX  hF
  · have hF := it_f u924 hF
    refine X.sub (lv' := []) [] rfl ?_
    exact w_L_law_1819 hC hX  hF
theorem w_L_law_1957 {cx : zX} {h0 : AH} (hC : Cx cx RX0 cL_law 8 8192 104096 (some .boolean) h0) {b L : Nat} {xs : Nat → Int32} (hX : zScr cx.G b L xs) {h : AH} {r : (Int32 × AH)} {kh23 : AH → Nat → Nat → Nat → Int32 → Option (Int32 × AH)} (hk23 : ∀ (h : AH) (a1 : Nat) (a2 : Nat) (a3 : Nat) (x4 : Int32), kh23 h a1 a2 a3 x4 = some r → X cx 8 (zQ cx h0 (.inl (some (.int r.1))) r.2) h 23 [(0, .ref b), (1, .ref a1), (2, .ref a2), (3, .ref a3), (4, .int x4)] []) {a1 : Nat} {a2 : Nat} {a3 : Nat} {x4 : Int32} (hF : B_L_law_1957 h L xs kh23 a1 a2 a3 x4 = some r) : X cx 8 (zQ cx h0 (.inl (some (.int r.1))) r.2) h 1957 [(0, .ref b), (1, .ref a1), (2, .ref a2), (3, .ref a3), (4, .int x4)] [] := by
  refine x_goto (tgt := 2923) hC dL_law_1957 (by decide) ?_
  exact w_L_law_2923 hC hX hk23 hF
theorem w_L_law_1955 {cx : zX} {h0 : AH} (hC : Cx cx RX0 cL_law 8 8192 104096 (some .boolean) h0) {b L : Nat} {xs : Nat → Int32} (hX : zScr cx.G b L xs) {h : AH} {r : (Int32 × AH)}    (hF : B_L_law_1955 h L xs   = some r) : X cx 8 (zQ cx h0 (.inl (some (.int r.1))) r.2) h 1955 [] [] := by
  refine x_iconst (v := 0) hC dL_law_1955 (by decide) ?_
  have e := some_e hF
  subst e
  exact x_zret (ty := .boolean) hC (bl_n (Or.inl rfl)) dL_law_1956
theorem w_L_law_1939 {cx : zX} {h0 : AH} (hC : Cx cx RX0 cL_law 8 8192 104096 (some .boolean) h0) {b L : Nat} {xs : Nat → Int32} (hX : zScr cx.G b L xs) {h : AH} {r : (Int32 × AH)}    (hF : B_L_law_1939 h L xs   = some r) : X cx 8 (zQ cx h0 (.inl (some (.int r.1))) r.2) h 1939 [] [] := by
  refine x_iconst (v := 0) hC dL_law_1939 (by decide) ?_
  have e := some_e hF
  subst e
  exact x_zret (ty := .boolean) hC (bl_n (Or.inl rfl)) dL_law_1940
theorem w_L_law_1925 {cx : zX} {h0 : AH} (hC : Cx cx RX0 cL_law 8 8192 104096 (some .boolean) h0) {b L : Nat} {xs : Nat → Int32} (hX : zScr cx.G b L xs) {h : AH} {r : (Int32 × AH)} {kh23 : AH → Nat → Nat → Nat → Int32 → Option (Int32 × AH)} (hk23 : ∀ (h : AH) (a1 : Nat) (a2 : Nat) (a3 : Nat) (x4 : Int32), kh23 h a1 a2 a3 x4 = some r → X cx 8 (zQ cx h0 (.inl (some (.int r.1))) r.2) h 23 [(0, .ref b), (1, .ref a1), (2, .ref a2), (3, .ref a3), (4, .int x4)] []) {a1 : Nat} {a2 : Nat} {a3 : Nat} {x4 : Int32} {x5 : Int32} {t0 : Int32} {t1 : Int32} {t2 : Int32} {t3 : Int32} {t4 : Int32} {t5 : Nat} (hF : B_L_law_1925 h L xs kh23 a1 a2 a3 x4 x5 t0 t1 t2 t3 t4 t5 = some r) : X cx 8 (zQ cx h0 (.inl (some (.int r.1))) r.2) h 1925 [(0, .ref b), (1, .ref a1), (2, .ref a2), (3, .ref a3), (4, .int x4), (5, .int x5)] [.int t0, .int t1, .int t2, .int t3, .int t4, .ref t5] := by
  obtain ⟨g925, hF⟩ := gd_e hF
  obtain ⟨r926, e927, hF⟩ := bd_e hF
  refine xk_V (κ := 8) (As := [.int t4, .int t3, .int t2, .int t1, .int t0]) (st := []) hC (m_X8_gains hC.fl e927) g925 rfl q2300 q2301 q2302 q2303 q107 hy_X8_gains ⟨Nat.le_of_ble_eq_true rfl, Nat.le_of_ble_eq_true rfl⟩ (Nat.le_of_ble_eq_true rfl) rfl dL_law_1925 ?_
  refine x_lstore (lv' := [(0, .ref b), (1, .ref a1), (2, .ref a2), (3, .ref a3), (4, .int x4), (5, .int x5), (6, .long r926.1)]) hC dL_law_1928 (by decide) [1, 2, 3, 4, 5, 6, 0] rfl ?_
  refine x_aload_n hC dL_law_1930 2 rfl ?_
  obtain ⟨g928, hF⟩ := gd_e hF
  obtain ⟨r929, e930, hF⟩ := bd_e hF
  refine xk_V (κ := 8) (As := []) (st := []) hC (m_X8_thrown hC.fl e930) g928 rfl q1950 q1951 q1952 q1953 q107 hy_X8_thrown ⟨Nat.le_of_ble_eq_true rfl, Nat.le_of_ble_eq_true rfl⟩ (Nat.le_of_ble_eq_true rfl) rfl dL_law_1931 ?_
  refine x_iload hC dL_law_1934 5 rfl ?_
  refine x_icmp_eq (tgt := 1941) hC dL_law_1936 (by decide) (fun u934 => ?_) (fun u934 => ?_)
  · have hF := it_t u934 hF
    refine x_iload hC dL_law_1941 5 rfl ?_
    refine x_if_ne (tgt := 1957) hC dL_law_1943 (by decide) (fun u933 => ?_) (fun u933 => ?_)
    · have hF := it_f u933 hF
      refine X.sub (lv' := [(0, .ref b), (1, .ref a1), (2, .ref a2), (3, .ref a3), (4, .int x4)]) [0, 1, 2, 3, 4] rfl ?_
      exact w_L_law_1957 hC hX hk23 hF
    · have hF := it_t u933 hF
      refine x_aload_n hC dL_law_1946 3 rfl ?_
      refine x_iconst (v := 0) hC dL_law_1947 (by decide) ?_
      obtain ⟨g931, hF⟩ := gd_e hF
      refine x_lald hC g931.1 g931.2 dL_law_1948 ?_
      refine x_lload hC dL_law_1949 6 rfl ?_
      refine x_lcmp hC dL_law_1951 ?_
      refine x_if_eq (tgt := 1957) hC dL_law_1952 (by decide) (fun u932 => ?_) (fun u932 => ?_)
      · have hF := it_t u932 hF
        refine X.sub (lv' := [(0, .ref b), (1, .ref a1), (2, .ref a2), (3, .ref a3), (4, .int x4)]) [0, 1, 2, 3, 4] rfl ?_
        exact w_L_law_1957 hC hX hk23 hF
      · have hF := it_f u932 hF
        refine X.sub (lv' := []) [] rfl ?_
        exact w_L_law_1955 hC hX  hF
  · have hF := it_f u934 hF
    refine X.sub (lv' := []) [] rfl ?_
    exact w_L_law_1939 hC hX  hF
theorem w_L_law_1880 {cx : zX} {h0 : AH} (hC : Cx cx RX0 cL_law 8 8192 104096 (some .boolean) h0) {b L : Nat} {xs : Nat → Int32} (hX : zScr cx.G b L xs) {h : AH} {r : (Int32 × AH)} {kh23 : AH → Nat → Nat → Nat → Int32 → Option (Int32 × AH)} (hk23 : ∀ (h : AH) (a1 : Nat) (a2 : Nat) (a3 : Nat) (x4 : Int32), kh23 h a1 a2 a3 x4 = some r → X cx 8 (zQ cx h0 (.inl (some (.int r.1))) r.2) h 23 [(0, .ref b), (1, .ref a1), (2, .ref a2), (3, .ref a3), (4, .int x4)] []) {a1 : Nat} {a2 : Nat} {a3 : Nat} {x4 : Int32} {t0 : Int32} {t1 : Int32} {t2 : Int32} {t3 : Int32} {t4 : Int32} {t5 : Nat} (hF : B_L_law_1880 h L xs kh23 a1 a2 a3 x4 t0 t1 t2 t3 t4 t5 = some r) : X cx 8 (zQ cx h0 (.inl (some (.int r.1))) r.2) h 1880 [(0, .ref b), (1, .ref a1), (2, .ref a2), (3, .ref a3), (4, .int x4)] [.int t0, .int t1, .int t2, .int t3, .int t4, .ref t5] := by
  refine x_aload_n hC dL_law_1880 3 rfl ?_
  obtain ⟨r935, e936, hF⟩ := bd_e hF
  refine xk_SW (As := [.ref t5, .int t4, .int t3, .int t2, .int t1, .int t0, .ref a3]) (st := []) hC (m_X0_gains hC.fl e936) q1620 q1621 q1622 q96 hy_X0_gains ⟨Nat.le_of_ble_eq_true rfl, Nat.le_of_ble_eq_true rfl⟩ (Nat.le_of_ble_eq_true rfl) rfl dL_law_1881 ?_
  refine x_istore (lv' := [(0, .ref b), (1, .ref a1), (2, .ref a2), (3, .ref a3), (4, .int x4), (5, .int r935.1)]) hC dL_law_1884 (by decide) [1, 2, 3, 4, 5, 0] rfl ?_
  refine x_aload_n hC dL_law_1886 2 rfl ?_
  refine x_aload_n hC dL_law_1887 0 rfl ?_
  refine x_iload hC dL_law_1888 4 rfl ?_
  refine x_iconst (v := 1) hC dL_law_1890 (by decide) ?_
  refine x_iadd hC dL_law_1891 ?_
  obtain ⟨g937, hF⟩ := gd_e hF
  refine x_sld hC hX g937 dL_law_1892 ?_
  refine x_aload_n hC dL_law_1893 0 rfl ?_
  refine x_iload hC dL_law_1894 4 rfl ?_
  refine x_iconst (v := 2) hC dL_law_1896 (by decide) ?_
  refine x_iadd hC dL_law_1897 ?_
  obtain ⟨g938, hF⟩ := gd_e hF
  refine x_sld hC hX g938 dL_law_1898 ?_
  refine x_aload_n hC dL_law_1899 0 rfl ?_
  refine x_iload hC dL_law_1900 4 rfl ?_
  refine x_iconst (v := 3) hC dL_law_1902 (by decide) ?_
  refine x_iadd hC dL_law_1903 ?_
  obtain ⟨g939, hF⟩ := gd_e hF
  refine x_sld hC hX g939 dL_law_1904 ?_
  refine x_aload_n hC dL_law_1905 0 rfl ?_
  refine x_iload hC dL_law_1906 4 rfl ?_
  refine x_iconst (v := 4) hC dL_law_1908 (by decide) ?_
  refine x_iadd hC dL_law_1909 ?_
  obtain ⟨g940, hF⟩ := gd_e hF
  refine x_sld hC hX g940 dL_law_1910 ?_
  refine x_aload_n hC dL_law_1911 0 rfl ?_
  refine x_iload hC dL_law_1912 4 rfl ?_
  refine x_iconst (v := 5) hC dL_law_1914 (by decide) ?_
  refine x_iadd hC dL_law_1915 ?_
  obtain ⟨g941, hF⟩ := gd_e hF
  refine x_sld hC hX g941 dL_law_1916 ?_
  refine x_if_eq (tgt := 1924) hC dL_law_1917 (by decide) (fun u942 => ?_) (fun u942 => ?_)
  · have hF := it_t u942 hF
    refine x_iconst (v := 0) hC dL_law_1924 (by decide) ?_
    exact w_L_law_1925 hC hX hk23 hF
  · have hF := it_f u942 hF
    refine x_iconst (v := 1) hC dL_law_1920 (by decide) ?_
    refine x_goto (tgt := 1925) hC dL_law_1921 (by decide) ?_
    exact w_L_law_1925 hC hX hk23 hF
theorem w_L_law_1841 {cx : zX} {h0 : AH} (hC : Cx cx RX0 cL_law 8 8192 104096 (some .boolean) h0) {b L : Nat} {xs : Nat → Int32} (hX : zScr cx.G b L xs) {h : AH} {r : (Int32 × AH)} {kh23 : AH → Nat → Nat → Nat → Int32 → Option (Int32 × AH)} (hk23 : ∀ (h : AH) (a1 : Nat) (a2 : Nat) (a3 : Nat) (x4 : Int32), kh23 h a1 a2 a3 x4 = some r → X cx 8 (zQ cx h0 (.inl (some (.int r.1))) r.2) h 23 [(0, .ref b), (1, .ref a1), (2, .ref a2), (3, .ref a3), (4, .int x4)] []) {a1 : Nat} {a2 : Nat} {a3 : Nat} {x4 : Int32} (hF : B_L_law_1841 h L xs kh23 a1 a2 a3 x4 = some r) : X cx 8 (zQ cx h0 (.inl (some (.int r.1))) r.2) h 1841 [(0, .ref b), (1, .ref a1), (2, .ref a2), (3, .ref a3), (4, .int x4)] [] := by
  refine x_aload_n hC dL_law_1841 1 rfl ?_
  refine x_aload_n hC dL_law_1842 0 rfl ?_
  refine x_iload hC dL_law_1843 4 rfl ?_
  refine x_iconst (v := 1) hC dL_law_1845 (by decide) ?_
  refine x_iadd hC dL_law_1846 ?_
  obtain ⟨g943, hF⟩ := gd_e hF
  refine x_sld hC hX g943 dL_law_1847 ?_
  refine x_aload_n hC dL_law_1848 0 rfl ?_
  refine x_iload hC dL_law_1849 4 rfl ?_
  refine x_iconst (v := 2) hC dL_law_1851 (by decide) ?_
  refine x_iadd hC dL_law_1852 ?_
  obtain ⟨g944, hF⟩ := gd_e hF
  refine x_sld hC hX g944 dL_law_1853 ?_
  refine x_aload_n hC dL_law_1854 0 rfl ?_
  refine x_iload hC dL_law_1855 4 rfl ?_
  refine x_iconst (v := 3) hC dL_law_1857 (by decide) ?_
  refine x_iadd hC dL_law_1858 ?_
  obtain ⟨g945, hF⟩ := gd_e hF
  refine x_sld hC hX g945 dL_law_1859 ?_
  refine x_aload_n hC dL_law_1860 0 rfl ?_
  refine x_iload hC dL_law_1861 4 rfl ?_
  refine x_iconst (v := 4) hC dL_law_1863 (by decide) ?_
  refine x_iadd hC dL_law_1864 ?_
  obtain ⟨g946, hF⟩ := gd_e hF
  refine x_sld hC hX g946 dL_law_1865 ?_
  refine x_aload_n hC dL_law_1866 0 rfl ?_
  refine x_iload hC dL_law_1867 4 rfl ?_
  refine x_iconst (v := 5) hC dL_law_1869 (by decide) ?_
  refine x_iadd hC dL_law_1870 ?_
  obtain ⟨g947, hF⟩ := gd_e hF
  refine x_sld hC hX g947 dL_law_1871 ?_
  refine x_if_eq (tgt := 1879) hC dL_law_1872 (by decide) (fun u948 => ?_) (fun u948 => ?_)
  · have hF := it_t u948 hF
    refine x_iconst (v := 0) hC dL_law_1879 (by decide) ?_
    exact w_L_law_1880 hC hX hk23 hF
  · have hF := it_f u948 hF
    refine x_iconst (v := 1) hC dL_law_1875 (by decide) ?_
    refine x_goto (tgt := 1880) hC dL_law_1876 (by decide) ?_
    exact w_L_law_1880 hC hX hk23 hF
theorem w_L_law_2049 {cx : zX} {h0 : AH} (hC : Cx cx RX0 cL_law 8 8192 104096 (some .boolean) h0) {b L : Nat} {xs : Nat → Int32} (hX : zScr cx.G b L xs) {h : AH} {r : (Int32 × AH)} {kh23 : AH → Nat → Nat → Nat → Int32 → Option (Int32 × AH)} (hk23 : ∀ (h : AH) (a1 : Nat) (a2 : Nat) (a3 : Nat) (x4 : Int32), kh23 h a1 a2 a3 x4 = some r → X cx 8 (zQ cx h0 (.inl (some (.int r.1))) r.2) h 23 [(0, .ref b), (1, .ref a1), (2, .ref a2), (3, .ref a3), (4, .int x4)] []) {a1 : Nat} {a2 : Nat} {a3 : Nat} {x4 : Int32} (hF : B_L_law_2049 h L xs kh23 a1 a2 a3 x4 = some r) : X cx 8 (zQ cx h0 (.inl (some (.int r.1))) r.2) h 2049 [(0, .ref b), (1, .ref a1), (2, .ref a2), (3, .ref a3), (4, .int x4)] [] := by
  refine x_goto (tgt := 2923) hC dL_law_2049 (by decide) ?_
  exact w_L_law_2923 hC hX hk23 hF
theorem w_L_law_2047 {cx : zX} {h0 : AH} (hC : Cx cx RX0 cL_law 8 8192 104096 (some .boolean) h0) {b L : Nat} {xs : Nat → Int32} (hX : zScr cx.G b L xs) {h : AH} {r : (Int32 × AH)}    (hF : B_L_law_2047 h L xs   = some r) : X cx 8 (zQ cx h0 (.inl (some (.int r.1))) r.2) h 2047 [] [] := by
  refine x_iconst (v := 0) hC dL_law_2047 (by decide) ?_
  have e := some_e hF
  subst e
  exact x_zret (ty := .boolean) hC (bl_n (Or.inl rfl)) dL_law_2048
theorem w_L_law_2030 {cx : zX} {h0 : AH} (hC : Cx cx RX0 cL_law 8 8192 104096 (some .boolean) h0) {b L : Nat} {xs : Nat → Int32} (hX : zScr cx.G b L xs) {h : AH} {r : (Int32 × AH)}    (hF : B_L_law_2030 h L xs   = some r) : X cx 8 (zQ cx h0 (.inl (some (.int r.1))) r.2) h 2030 [] [] := by
  refine x_iconst (v := 0) hC dL_law_2030 (by decide) ?_
  have e := some_e hF
  subst e
  exact x_zret (ty := .boolean) hC (bl_n (Or.inl rfl)) dL_law_2031
theorem w_L_law_1960 {cx : zX} {h0 : AH} (hC : Cx cx RX0 cL_law 8 8192 104096 (some .boolean) h0) {b L : Nat} {xs : Nat → Int32} (hX : zScr cx.G b L xs) {h : AH} {r : (Int32 × AH)} {kh23 : AH → Nat → Nat → Nat → Int32 → Option (Int32 × AH)} (hk23 : ∀ (h : AH) (a1 : Nat) (a2 : Nat) (a3 : Nat) (x4 : Int32), kh23 h a1 a2 a3 x4 = some r → X cx 8 (zQ cx h0 (.inl (some (.int r.1))) r.2) h 23 [(0, .ref b), (1, .ref a1), (2, .ref a2), (3, .ref a3), (4, .int x4)] []) {a1 : Nat} {a2 : Nat} {a3 : Nat} {x4 : Int32} (hF : B_L_law_1960 h L xs kh23 a1 a2 a3 x4 = some r) : X cx 8 (zQ cx h0 (.inl (some (.int r.1))) r.2) h 1960 [(0, .ref b), (1, .ref a1), (2, .ref a2), (3, .ref a3), (4, .int x4)] [] := by
  refine x_aload_n hC dL_law_1960 1 rfl ?_
  refine x_aload_n hC dL_law_1961 0 rfl ?_
  refine x_iload hC dL_law_1962 4 rfl ?_
  refine x_iconst (v := 1) hC dL_law_1964 (by decide) ?_
  refine x_iadd hC dL_law_1965 ?_
  obtain ⟨g949, hF⟩ := gd_e hF
  refine x_sld hC hX g949 dL_law_1966 ?_
  refine x_aload_n hC dL_law_1967 0 rfl ?_
  refine x_iload hC dL_law_1968 4 rfl ?_
  refine x_iconst (v := 2) hC dL_law_1970 (by decide) ?_
  refine x_iadd hC dL_law_1971 ?_
  obtain ⟨g950, hF⟩ := gd_e hF
  refine x_sld hC hX g950 dL_law_1972 ?_
  refine x_aload_n hC dL_law_1973 0 rfl ?_
  refine x_iload hC dL_law_1974 4 rfl ?_
  refine x_iconst (v := 3) hC dL_law_1976 (by decide) ?_
  refine x_iadd hC dL_law_1977 ?_
  obtain ⟨g951, hF⟩ := gd_e hF
  refine x_sld hC hX g951 dL_law_1978 ?_
  refine x_aload_n hC dL_law_1979 0 rfl ?_
  refine x_iload hC dL_law_1980 4 rfl ?_
  refine x_iconst (v := 4) hC dL_law_1982 (by decide) ?_
  refine x_iadd hC dL_law_1983 ?_
  obtain ⟨g952, hF⟩ := gd_e hF
  refine x_sld hC hX g952 dL_law_1984 ?_
  refine x_aload_n hC dL_law_1985 3 rfl ?_
  obtain ⟨r953, e954, hF⟩ := bd_e hF
  refine xk_SW (As := [.ref a1, .int (xs (ix (x4 + 1))), .int (xs (ix (x4 + 2))), .int (xs (ix (x4 + 3))), .int (xs (ix (x4 + 4))), .ref a3]) (st := []) hC (m_X0_learn hC.fl e954) q1627 q1628 q1629 q96 hy_X0_learn ⟨Nat.le_of_ble_eq_true rfl, Nat.le_of_ble_eq_true rfl⟩ (Nat.le_of_ble_eq_true rfl) rfl dL_law_1986 ?_
  refine x_istore (lv' := [(0, .ref b), (1, .ref a1), (2, .ref a2), (3, .ref a3), (4, .int x4), (5, .int r953.1)]) hC dL_law_1989 (by decide) [1, 2, 3, 4, 5, 0] rfl ?_
  refine x_aload_n hC dL_law_1991 2 rfl ?_
  refine x_aload_n hC dL_law_1992 0 rfl ?_
  refine x_iload hC dL_law_1993 4 rfl ?_
  refine x_iconst (v := 1) hC dL_law_1995 (by decide) ?_
  refine x_iadd hC dL_law_1996 ?_
  obtain ⟨g955, hF⟩ := gd_e hF
  refine x_sld hC hX g955 dL_law_1997 ?_
  refine x_aload_n hC dL_law_1998 0 rfl ?_
  refine x_iload hC dL_law_1999 4 rfl ?_
  refine x_iconst (v := 2) hC dL_law_2001 (by decide) ?_
  refine x_iadd hC dL_law_2002 ?_
  obtain ⟨g956, hF⟩ := gd_e hF
  refine x_sld hC hX g956 dL_law_2003 ?_
  refine x_aload_n hC dL_law_2004 0 rfl ?_
  refine x_iload hC dL_law_2005 4 rfl ?_
  refine x_iconst (v := 3) hC dL_law_2007 (by decide) ?_
  refine x_iadd hC dL_law_2008 ?_
  obtain ⟨g957, hF⟩ := gd_e hF
  refine x_sld hC hX g957 dL_law_2009 ?_
  refine x_aload_n hC dL_law_2010 0 rfl ?_
  refine x_iload hC dL_law_2011 4 rfl ?_
  refine x_iconst (v := 4) hC dL_law_2013 (by decide) ?_
  refine x_iadd hC dL_law_2014 ?_
  obtain ⟨g958, hF⟩ := gd_e hF
  refine x_sld hC hX g958 dL_law_2015 ?_
  obtain ⟨g959, hF⟩ := gd_e hF
  obtain ⟨r960, e961, hF⟩ := bd_e hF
  refine xk_V (κ := 8) (As := [.int (xs (ix (x4 + 1))), .int (xs (ix (x4 + 2))), .int (xs (ix (x4 + 3))), .int (xs (ix (x4 + 4)))]) (st := []) hC (m_X8_learn hC.fl e961) g959 rfl q2304 q2305 q2306 q2307 q107 hy_X8_learn ⟨Nat.le_of_ble_eq_true rfl, Nat.le_of_ble_eq_true rfl⟩ (Nat.le_of_ble_eq_true rfl) rfl dL_law_2016 ?_
  refine x_istore (lv' := [(0, .ref b), (1, .ref a1), (2, .ref a2), (3, .ref a3), (4, .int x4), (5, .int r953.1), (6, .int r960.1)]) hC dL_law_2019 (by decide) [1, 2, 3, 4, 5, 6, 0] rfl ?_
  refine x_aload_n hC dL_law_2021 2 rfl ?_
  obtain ⟨g962, hF⟩ := gd_e hF
  obtain ⟨r963, e964, hF⟩ := bd_e hF
  refine xk_V (κ := 8) (As := []) (st := []) hC (m_X8_thrown hC.fl e964) g962 rfl q1950 q1951 q1952 q1953 q107 hy_X8_thrown ⟨Nat.le_of_ble_eq_true rfl, Nat.le_of_ble_eq_true rfl⟩ (Nat.le_of_ble_eq_true rfl) rfl dL_law_2022 ?_
  refine x_iload hC dL_law_2025 5 rfl ?_
  refine x_icmp_eq (tgt := 2032) hC dL_law_2027 (by decide) (fun u968 => ?_) (fun u968 => ?_)
  · have hF := it_t u968 hF
    refine x_iload hC dL_law_2032 5 rfl ?_
    refine x_if_ne (tgt := 2049) hC dL_law_2034 (by decide) (fun u967 => ?_) (fun u967 => ?_)
    · have hF := it_f u967 hF
      refine X.sub (lv' := [(0, .ref b), (1, .ref a1), (2, .ref a2), (3, .ref a3), (4, .int x4)]) [0, 1, 2, 3, 4] rfl ?_
      exact w_L_law_2049 hC hX hk23 hF
    · have hF := it_t u967 hF
      refine x_aload_n hC dL_law_2037 3 rfl ?_
      refine x_iconst (v := 0) hC dL_law_2038 (by decide) ?_
      obtain ⟨g965, hF⟩ := gd_e hF
      refine x_lald hC g965.1 g965.2 dL_law_2039 ?_
      refine x_iload hC dL_law_2040 6 rfl ?_
      refine x_i2l hC dL_law_2042 ?_
      refine x_lcmp hC dL_law_2043 ?_
      refine x_if_eq (tgt := 2049) hC dL_law_2044 (by decide) (fun u966 => ?_) (fun u966 => ?_)
      · have hF := it_t u966 hF
        refine X.sub (lv' := [(0, .ref b), (1, .ref a1), (2, .ref a2), (3, .ref a3), (4, .int x4)]) [0, 1, 2, 3, 4] rfl ?_
        exact w_L_law_2049 hC hX hk23 hF
      · have hF := it_f u966 hF
        refine X.sub (lv' := []) [] rfl ?_
        exact w_L_law_2047 hC hX  hF
  · have hF := it_f u968 hF
    refine X.sub (lv' := []) [] rfl ?_
    exact w_L_law_2030 hC hX  hF
theorem w_L_law_2141 {cx : zX} {h0 : AH} (hC : Cx cx RX0 cL_law 8 8192 104096 (some .boolean) h0) {b L : Nat} {xs : Nat → Int32} (hX : zScr cx.G b L xs) {h : AH} {r : (Int32 × AH)} {kh23 : AH → Nat → Nat → Nat → Int32 → Option (Int32 × AH)} (hk23 : ∀ (h : AH) (a1 : Nat) (a2 : Nat) (a3 : Nat) (x4 : Int32), kh23 h a1 a2 a3 x4 = some r → X cx 8 (zQ cx h0 (.inl (some (.int r.1))) r.2) h 23 [(0, .ref b), (1, .ref a1), (2, .ref a2), (3, .ref a3), (4, .int x4)] []) {a1 : Nat} {a2 : Nat} {a3 : Nat} {x4 : Int32} (hF : B_L_law_2141 h L xs kh23 a1 a2 a3 x4 = some r) : X cx 8 (zQ cx h0 (.inl (some (.int r.1))) r.2) h 2141 [(0, .ref b), (1, .ref a1), (2, .ref a2), (3, .ref a3), (4, .int x4)] [] := by
  refine x_goto (tgt := 2923) hC dL_law_2141 (by decide) ?_
  exact w_L_law_2923 hC hX hk23 hF
theorem w_L_law_2139 {cx : zX} {h0 : AH} (hC : Cx cx RX0 cL_law 8 8192 104096 (some .boolean) h0) {b L : Nat} {xs : Nat → Int32} (hX : zScr cx.G b L xs) {h : AH} {r : (Int32 × AH)}    (hF : B_L_law_2139 h L xs   = some r) : X cx 8 (zQ cx h0 (.inl (some (.int r.1))) r.2) h 2139 [] [] := by
  refine x_iconst (v := 0) hC dL_law_2139 (by decide) ?_
  have e := some_e hF
  subst e
  exact x_zret (ty := .boolean) hC (bl_n (Or.inl rfl)) dL_law_2140
theorem w_L_law_2122 {cx : zX} {h0 : AH} (hC : Cx cx RX0 cL_law 8 8192 104096 (some .boolean) h0) {b L : Nat} {xs : Nat → Int32} (hX : zScr cx.G b L xs) {h : AH} {r : (Int32 × AH)}    (hF : B_L_law_2122 h L xs   = some r) : X cx 8 (zQ cx h0 (.inl (some (.int r.1))) r.2) h 2122 [] [] := by
  refine x_iconst (v := 0) hC dL_law_2122 (by decide) ?_
  have e := some_e hF
  subst e
  exact x_zret (ty := .boolean) hC (bl_n (Or.inl rfl)) dL_law_2123
theorem w_L_law_2052 {cx : zX} {h0 : AH} (hC : Cx cx RX0 cL_law 8 8192 104096 (some .boolean) h0) {b L : Nat} {xs : Nat → Int32} (hX : zScr cx.G b L xs) {h : AH} {r : (Int32 × AH)} {kh23 : AH → Nat → Nat → Nat → Int32 → Option (Int32 × AH)} (hk23 : ∀ (h : AH) (a1 : Nat) (a2 : Nat) (a3 : Nat) (x4 : Int32), kh23 h a1 a2 a3 x4 = some r → X cx 8 (zQ cx h0 (.inl (some (.int r.1))) r.2) h 23 [(0, .ref b), (1, .ref a1), (2, .ref a2), (3, .ref a3), (4, .int x4)] []) {a1 : Nat} {a2 : Nat} {a3 : Nat} {x4 : Int32} (hF : B_L_law_2052 h L xs kh23 a1 a2 a3 x4 = some r) : X cx 8 (zQ cx h0 (.inl (some (.int r.1))) r.2) h 2052 [(0, .ref b), (1, .ref a1), (2, .ref a2), (3, .ref a3), (4, .int x4)] [] := by
  refine x_aload_n hC dL_law_2052 1 rfl ?_
  refine x_aload_n hC dL_law_2053 0 rfl ?_
  refine x_iload hC dL_law_2054 4 rfl ?_
  refine x_iconst (v := 1) hC dL_law_2056 (by decide) ?_
  refine x_iadd hC dL_law_2057 ?_
  obtain ⟨g969, hF⟩ := gd_e hF
  refine x_sld hC hX g969 dL_law_2058 ?_
  refine x_aload_n hC dL_law_2059 0 rfl ?_
  refine x_iload hC dL_law_2060 4 rfl ?_
  refine x_iconst (v := 2) hC dL_law_2062 (by decide) ?_
  refine x_iadd hC dL_law_2063 ?_
  obtain ⟨g970, hF⟩ := gd_e hF
  refine x_sld hC hX g970 dL_law_2064 ?_
  refine x_aload_n hC dL_law_2065 0 rfl ?_
  refine x_iload hC dL_law_2066 4 rfl ?_
  refine x_iconst (v := 3) hC dL_law_2068 (by decide) ?_
  refine x_iadd hC dL_law_2069 ?_
  obtain ⟨g971, hF⟩ := gd_e hF
  refine x_sld hC hX g971 dL_law_2070 ?_
  refine x_aload_n hC dL_law_2071 0 rfl ?_
  refine x_iload hC dL_law_2072 4 rfl ?_
  refine x_iconst (v := 4) hC dL_law_2074 (by decide) ?_
  refine x_iadd hC dL_law_2075 ?_
  obtain ⟨g972, hF⟩ := gd_e hF
  refine x_sld hC hX g972 dL_law_2076 ?_
  refine x_aload_n hC dL_law_2077 3 rfl ?_
  obtain ⟨r973, e974, hF⟩ := bd_e hF
  refine xk_SW (As := [.ref a1, .int (xs (ix (x4 + 1))), .int (xs (ix (x4 + 2))), .int (xs (ix (x4 + 3))), .int (xs (ix (x4 + 4))), .ref a3]) (st := []) hC (m_X0_above hC.fl e974) q1656 q1657 q1658 q96 hy_X0_above ⟨Nat.le_of_ble_eq_true rfl, Nat.le_of_ble_eq_true rfl⟩ (Nat.le_of_ble_eq_true rfl) rfl dL_law_2078 ?_
  refine x_istore (lv' := [(0, .ref b), (1, .ref a1), (2, .ref a2), (3, .ref a3), (4, .int x4), (5, .int r973.1)]) hC dL_law_2081 (by decide) [1, 2, 3, 4, 5, 0] rfl ?_
  refine x_aload_n hC dL_law_2083 2 rfl ?_
  refine x_aload_n hC dL_law_2084 0 rfl ?_
  refine x_iload hC dL_law_2085 4 rfl ?_
  refine x_iconst (v := 1) hC dL_law_2087 (by decide) ?_
  refine x_iadd hC dL_law_2088 ?_
  obtain ⟨g975, hF⟩ := gd_e hF
  refine x_sld hC hX g975 dL_law_2089 ?_
  refine x_aload_n hC dL_law_2090 0 rfl ?_
  refine x_iload hC dL_law_2091 4 rfl ?_
  refine x_iconst (v := 2) hC dL_law_2093 (by decide) ?_
  refine x_iadd hC dL_law_2094 ?_
  obtain ⟨g976, hF⟩ := gd_e hF
  refine x_sld hC hX g976 dL_law_2095 ?_
  refine x_aload_n hC dL_law_2096 0 rfl ?_
  refine x_iload hC dL_law_2097 4 rfl ?_
  refine x_iconst (v := 3) hC dL_law_2099 (by decide) ?_
  refine x_iadd hC dL_law_2100 ?_
  obtain ⟨g977, hF⟩ := gd_e hF
  refine x_sld hC hX g977 dL_law_2101 ?_
  refine x_aload_n hC dL_law_2102 0 rfl ?_
  refine x_iload hC dL_law_2103 4 rfl ?_
  refine x_iconst (v := 4) hC dL_law_2105 (by decide) ?_
  refine x_iadd hC dL_law_2106 ?_
  obtain ⟨g978, hF⟩ := gd_e hF
  refine x_sld hC hX g978 dL_law_2107 ?_
  obtain ⟨g979, hF⟩ := gd_e hF
  obtain ⟨r980, e981, hF⟩ := bd_e hF
  refine xk_V (κ := 8) (As := [.int (xs (ix (x4 + 1))), .int (xs (ix (x4 + 2))), .int (xs (ix (x4 + 3))), .int (xs (ix (x4 + 4)))]) (st := []) hC (m_X8_above hC.fl e981) g979 rfl q2333 q2334 q2335 q2336 q107 hy_X8_above ⟨Nat.le_of_ble_eq_true rfl, Nat.le_of_ble_eq_true rfl⟩ (Nat.le_of_ble_eq_true rfl) rfl dL_law_2108 ?_
  refine x_istore (lv' := [(0, .ref b), (1, .ref a1), (2, .ref a2), (3, .ref a3), (4, .int x4), (5, .int r973.1), (6, .int r980.1)]) hC dL_law_2111 (by decide) [1, 2, 3, 4, 5, 6, 0] rfl ?_
  refine x_aload_n hC dL_law_2113 2 rfl ?_
  obtain ⟨g982, hF⟩ := gd_e hF
  obtain ⟨r983, e984, hF⟩ := bd_e hF
  refine xk_V (κ := 8) (As := []) (st := []) hC (m_X8_thrown hC.fl e984) g982 rfl q1950 q1951 q1952 q1953 q107 hy_X8_thrown ⟨Nat.le_of_ble_eq_true rfl, Nat.le_of_ble_eq_true rfl⟩ (Nat.le_of_ble_eq_true rfl) rfl dL_law_2114 ?_
  refine x_iload hC dL_law_2117 5 rfl ?_
  refine x_icmp_eq (tgt := 2124) hC dL_law_2119 (by decide) (fun u988 => ?_) (fun u988 => ?_)
  · have hF := it_t u988 hF
    refine x_iload hC dL_law_2124 5 rfl ?_
    refine x_if_ne (tgt := 2141) hC dL_law_2126 (by decide) (fun u987 => ?_) (fun u987 => ?_)
    · have hF := it_f u987 hF
      refine X.sub (lv' := [(0, .ref b), (1, .ref a1), (2, .ref a2), (3, .ref a3), (4, .int x4)]) [0, 1, 2, 3, 4] rfl ?_
      exact w_L_law_2141 hC hX hk23 hF
    · have hF := it_t u987 hF
      refine x_aload_n hC dL_law_2129 3 rfl ?_
      refine x_iconst (v := 0) hC dL_law_2130 (by decide) ?_
      obtain ⟨g985, hF⟩ := gd_e hF
      refine x_lald hC g985.1 g985.2 dL_law_2131 ?_
      refine x_iload hC dL_law_2132 6 rfl ?_
      refine x_i2l hC dL_law_2134 ?_
      refine x_lcmp hC dL_law_2135 ?_
      refine x_if_eq (tgt := 2141) hC dL_law_2136 (by decide) (fun u986 => ?_) (fun u986 => ?_)
      · have hF := it_t u986 hF
        refine X.sub (lv' := [(0, .ref b), (1, .ref a1), (2, .ref a2), (3, .ref a3), (4, .int x4)]) [0, 1, 2, 3, 4] rfl ?_
        exact w_L_law_2141 hC hX hk23 hF
      · have hF := it_f u986 hF
        refine X.sub (lv' := []) [] rfl ?_
        exact w_L_law_2139 hC hX  hF
  · have hF := it_f u988 hF
    refine X.sub (lv' := []) [] rfl ?_
    exact w_L_law_2122 hC hX  hF
theorem w_L_law_2245 {cx : zX} {h0 : AH} (hC : Cx cx RX0 cL_law 8 8192 104096 (some .boolean) h0) {b L : Nat} {xs : Nat → Int32} (hX : zScr cx.G b L xs) {h : AH} {r : (Int32 × AH)} {kh23 : AH → Nat → Nat → Nat → Int32 → Option (Int32 × AH)} (hk23 : ∀ (h : AH) (a1 : Nat) (a2 : Nat) (a3 : Nat) (x4 : Int32), kh23 h a1 a2 a3 x4 = some r → X cx 8 (zQ cx h0 (.inl (some (.int r.1))) r.2) h 23 [(0, .ref b), (1, .ref a1), (2, .ref a2), (3, .ref a3), (4, .int x4)] []) {a1 : Nat} {a2 : Nat} {a3 : Nat} {x4 : Int32} (hF : B_L_law_2245 h L xs kh23 a1 a2 a3 x4 = some r) : X cx 8 (zQ cx h0 (.inl (some (.int r.1))) r.2) h 2245 [(0, .ref b), (1, .ref a1), (2, .ref a2), (3, .ref a3), (4, .int x4)] [] := by
  refine x_goto (tgt := 2923) hC dL_law_2245 (by decide) ?_
  exact w_L_law_2923 hC hX hk23 hF
theorem w_L_law_2243 {cx : zX} {h0 : AH} (hC : Cx cx RX0 cL_law 8 8192 104096 (some .boolean) h0) {b L : Nat} {xs : Nat → Int32} (hX : zScr cx.G b L xs) {h : AH} {r : (Int32 × AH)}    (hF : B_L_law_2243 h L xs   = some r) : X cx 8 (zQ cx h0 (.inl (some (.int r.1))) r.2) h 2243 [] [] := by
  refine x_iconst (v := 0) hC dL_law_2243 (by decide) ?_
  have e := some_e hF
  subst e
  exact x_zret (ty := .boolean) hC (bl_n (Or.inl rfl)) dL_law_2244
theorem w_L_law_2226 {cx : zX} {h0 : AH} (hC : Cx cx RX0 cL_law 8 8192 104096 (some .boolean) h0) {b L : Nat} {xs : Nat → Int32} (hX : zScr cx.G b L xs) {h : AH} {r : (Int32 × AH)}    (hF : B_L_law_2226 h L xs   = some r) : X cx 8 (zQ cx h0 (.inl (some (.int r.1))) r.2) h 2226 [] [] := by
  refine x_iconst (v := 0) hC dL_law_2226 (by decide) ?_
  have e := some_e hF
  subst e
  exact x_zret (ty := .boolean) hC (bl_n (Or.inl rfl)) dL_law_2227
theorem w_L_law_2144 {cx : zX} {h0 : AH} (hC : Cx cx RX0 cL_law 8 8192 104096 (some .boolean) h0) {b L : Nat} {xs : Nat → Int32} (hX : zScr cx.G b L xs) {h : AH} {r : (Int32 × AH)} {kh23 : AH → Nat → Nat → Nat → Int32 → Option (Int32 × AH)} (hk23 : ∀ (h : AH) (a1 : Nat) (a2 : Nat) (a3 : Nat) (x4 : Int32), kh23 h a1 a2 a3 x4 = some r → X cx 8 (zQ cx h0 (.inl (some (.int r.1))) r.2) h 23 [(0, .ref b), (1, .ref a1), (2, .ref a2), (3, .ref a3), (4, .int x4)] []) {a1 : Nat} {a2 : Nat} {a3 : Nat} {x4 : Int32} (hF : B_L_law_2144 h L xs kh23 a1 a2 a3 x4 = some r) : X cx 8 (zQ cx h0 (.inl (some (.int r.1))) r.2) h 2144 [(0, .ref b), (1, .ref a1), (2, .ref a2), (3, .ref a3), (4, .int x4)] [] := by
  refine x_aload_n hC dL_law_2144 1 rfl ?_
  refine x_aload_n hC dL_law_2145 0 rfl ?_
  refine x_iload hC dL_law_2146 4 rfl ?_
  refine x_iconst (v := 1) hC dL_law_2148 (by decide) ?_
  refine x_iadd hC dL_law_2149 ?_
  obtain ⟨g989, hF⟩ := gd_e hF
  refine x_sld hC hX g989 dL_law_2150 ?_
  refine x_aload_n hC dL_law_2151 0 rfl ?_
  refine x_iload hC dL_law_2152 4 rfl ?_
  refine x_iconst (v := 2) hC dL_law_2154 (by decide) ?_
  refine x_iadd hC dL_law_2155 ?_
  obtain ⟨g990, hF⟩ := gd_e hF
  refine x_sld hC hX g990 dL_law_2156 ?_
  refine x_aload_n hC dL_law_2157 0 rfl ?_
  refine x_iload hC dL_law_2158 4 rfl ?_
  refine x_iconst (v := 3) hC dL_law_2160 (by decide) ?_
  refine x_iadd hC dL_law_2161 ?_
  obtain ⟨g991, hF⟩ := gd_e hF
  refine x_sld hC hX g991 dL_law_2162 ?_
  refine x_aload_n hC dL_law_2163 0 rfl ?_
  refine x_iload hC dL_law_2164 4 rfl ?_
  refine x_iconst (v := 4) hC dL_law_2166 (by decide) ?_
  refine x_iadd hC dL_law_2167 ?_
  obtain ⟨g992, hF⟩ := gd_e hF
  refine x_sld hC hX g992 dL_law_2168 ?_
  refine x_aload_n hC dL_law_2169 0 rfl ?_
  refine x_iload hC dL_law_2170 4 rfl ?_
  refine x_iconst (v := 5) hC dL_law_2172 (by decide) ?_
  refine x_iadd hC dL_law_2173 ?_
  obtain ⟨g993, hF⟩ := gd_e hF
  refine x_sld hC hX g993 dL_law_2174 ?_
  refine x_aload_n hC dL_law_2175 3 rfl ?_
  obtain ⟨r994, e995, hF⟩ := bd_e hF
  refine xk_SW (As := [.ref a1, .int (xs (ix (x4 + 1))), .int (xs (ix (x4 + 2))), .int (xs (ix (x4 + 3))), .int (xs (ix (x4 + 4))), .int (xs (ix (x4 + 5))), .ref a3]) (st := []) hC (m_X0_punish hC.fl e995) q1663 q1664 q1665 q96 hy_X0_punish ⟨Nat.le_of_ble_eq_true rfl, Nat.le_of_ble_eq_true rfl⟩ (Nat.le_of_ble_eq_true rfl) rfl dL_law_2176 ?_
  refine x_istore (lv' := [(0, .ref b), (1, .ref a1), (2, .ref a2), (3, .ref a3), (4, .int x4), (5, .int r994.1)]) hC dL_law_2179 (by decide) [1, 2, 3, 4, 5, 0] rfl ?_
  refine x_aload_n hC dL_law_2181 2 rfl ?_
  refine x_aload_n hC dL_law_2182 0 rfl ?_
  refine x_iload hC dL_law_2183 4 rfl ?_
  refine x_iconst (v := 1) hC dL_law_2185 (by decide) ?_
  refine x_iadd hC dL_law_2186 ?_
  obtain ⟨g996, hF⟩ := gd_e hF
  refine x_sld hC hX g996 dL_law_2187 ?_
  refine x_aload_n hC dL_law_2188 0 rfl ?_
  refine x_iload hC dL_law_2189 4 rfl ?_
  refine x_iconst (v := 2) hC dL_law_2191 (by decide) ?_
  refine x_iadd hC dL_law_2192 ?_
  obtain ⟨g997, hF⟩ := gd_e hF
  refine x_sld hC hX g997 dL_law_2193 ?_
  refine x_aload_n hC dL_law_2194 0 rfl ?_
  refine x_iload hC dL_law_2195 4 rfl ?_
  refine x_iconst (v := 3) hC dL_law_2197 (by decide) ?_
  refine x_iadd hC dL_law_2198 ?_
  obtain ⟨g998, hF⟩ := gd_e hF
  refine x_sld hC hX g998 dL_law_2199 ?_
  refine x_aload_n hC dL_law_2200 0 rfl ?_
  refine x_iload hC dL_law_2201 4 rfl ?_
  refine x_iconst (v := 4) hC dL_law_2203 (by decide) ?_
  refine x_iadd hC dL_law_2204 ?_
  obtain ⟨g999, hF⟩ := gd_e hF
  refine x_sld hC hX g999 dL_law_2205 ?_
  refine x_aload_n hC dL_law_2206 0 rfl ?_
  refine x_iload hC dL_law_2207 4 rfl ?_
  refine x_iconst (v := 5) hC dL_law_2209 (by decide) ?_
  refine x_iadd hC dL_law_2210 ?_
  obtain ⟨g1000, hF⟩ := gd_e hF
  refine x_sld hC hX g1000 dL_law_2211 ?_
  obtain ⟨g1001, hF⟩ := gd_e hF
  obtain ⟨r1002, e1003, hF⟩ := bd_e hF
  refine xk_V (κ := 8) (As := [.int (xs (ix (x4 + 1))), .int (xs (ix (x4 + 2))), .int (xs (ix (x4 + 3))), .int (xs (ix (x4 + 4))), .int (xs (ix (x4 + 5)))]) (st := []) hC (m_X8_punish hC.fl e1003) g1001 rfl q2337 q2338 q2339 q2340 q107 hy_X8_punish ⟨Nat.le_of_ble_eq_true rfl, Nat.le_of_ble_eq_true rfl⟩ (Nat.le_of_ble_eq_true rfl) rfl dL_law_2212 ?_
  refine x_istore (lv' := [(0, .ref b), (1, .ref a1), (2, .ref a2), (3, .ref a3), (4, .int x4), (5, .int r994.1), (6, .int r1002.1)]) hC dL_law_2215 (by decide) [1, 2, 3, 4, 5, 6, 0] rfl ?_
  refine x_aload_n hC dL_law_2217 2 rfl ?_
  obtain ⟨g1004, hF⟩ := gd_e hF
  obtain ⟨r1005, e1006, hF⟩ := bd_e hF
  refine xk_V (κ := 8) (As := []) (st := []) hC (m_X8_thrown hC.fl e1006) g1004 rfl q1950 q1951 q1952 q1953 q107 hy_X8_thrown ⟨Nat.le_of_ble_eq_true rfl, Nat.le_of_ble_eq_true rfl⟩ (Nat.le_of_ble_eq_true rfl) rfl dL_law_2218 ?_
  refine x_iload hC dL_law_2221 5 rfl ?_
  refine x_icmp_eq (tgt := 2228) hC dL_law_2223 (by decide) (fun u1010 => ?_) (fun u1010 => ?_)
  · have hF := it_t u1010 hF
    refine x_iload hC dL_law_2228 5 rfl ?_
    refine x_if_ne (tgt := 2245) hC dL_law_2230 (by decide) (fun u1009 => ?_) (fun u1009 => ?_)
    · have hF := it_f u1009 hF
      refine X.sub (lv' := [(0, .ref b), (1, .ref a1), (2, .ref a2), (3, .ref a3), (4, .int x4)]) [0, 1, 2, 3, 4] rfl ?_
      exact w_L_law_2245 hC hX hk23 hF
    · have hF := it_t u1009 hF
      refine x_aload_n hC dL_law_2233 3 rfl ?_
      refine x_iconst (v := 0) hC dL_law_2234 (by decide) ?_
      obtain ⟨g1007, hF⟩ := gd_e hF
      refine x_lald hC g1007.1 g1007.2 dL_law_2235 ?_
      refine x_iload hC dL_law_2236 6 rfl ?_
      refine x_i2l hC dL_law_2238 ?_
      refine x_lcmp hC dL_law_2239 ?_
      refine x_if_eq (tgt := 2245) hC dL_law_2240 (by decide) (fun u1008 => ?_) (fun u1008 => ?_)
      · have hF := it_t u1008 hF
        refine X.sub (lv' := [(0, .ref b), (1, .ref a1), (2, .ref a2), (3, .ref a3), (4, .int x4)]) [0, 1, 2, 3, 4] rfl ?_
        exact w_L_law_2245 hC hX hk23 hF
      · have hF := it_f u1008 hF
        refine X.sub (lv' := []) [] rfl ?_
        exact w_L_law_2243 hC hX  hF
  · have hF := it_f u1010 hF
    refine X.sub (lv' := []) [] rfl ?_
    exact w_L_law_2226 hC hX  hF
theorem w_L_law_2320 {cx : zX} {h0 : AH} (hC : Cx cx RX0 cL_law 8 8192 104096 (some .boolean) h0) {b L : Nat} {xs : Nat → Int32} (hX : zScr cx.G b L xs) {h : AH} {r : (Int32 × AH)} {kh23 : AH → Nat → Nat → Nat → Int32 → Option (Int32 × AH)} (hk23 : ∀ (h : AH) (a1 : Nat) (a2 : Nat) (a3 : Nat) (x4 : Int32), kh23 h a1 a2 a3 x4 = some r → X cx 8 (zQ cx h0 (.inl (some (.int r.1))) r.2) h 23 [(0, .ref b), (1, .ref a1), (2, .ref a2), (3, .ref a3), (4, .int x4)] []) {a1 : Nat} {a2 : Nat} {a3 : Nat} {x4 : Int32} (hF : B_L_law_2320 h L xs kh23 a1 a2 a3 x4 = some r) : X cx 8 (zQ cx h0 (.inl (some (.int r.1))) r.2) h 2320 [(0, .ref b), (1, .ref a1), (2, .ref a2), (3, .ref a3), (4, .int x4)] [] := by
  refine x_goto (tgt := 2923) hC dL_law_2320 (by decide) ?_
  exact w_L_law_2923 hC hX hk23 hF
theorem w_L_law_2318 {cx : zX} {h0 : AH} (hC : Cx cx RX0 cL_law 8 8192 104096 (some .boolean) h0) {b L : Nat} {xs : Nat → Int32} (hX : zScr cx.G b L xs) {h : AH} {r : (Int32 × AH)}    (hF : B_L_law_2318 h L xs   = some r) : X cx 8 (zQ cx h0 (.inl (some (.int r.1))) r.2) h 2318 [] [] := by
  refine x_iconst (v := 0) hC dL_law_2318 (by decide) ?_
  have e := some_e hF
  subst e
  exact x_zret (ty := .boolean) hC (bl_n (Or.inl rfl)) dL_law_2319
theorem w_L_law_2314 {cx : zX} {h0 : AH} (hC : Cx cx RX0 cL_law 8 8192 104096 (some .boolean) h0) {b L : Nat} {xs : Nat → Int32} (hX : zScr cx.G b L xs) {h : AH} {r : (Int32 × AH)} {kh23 : AH → Nat → Nat → Nat → Int32 → Option (Int32 × AH)} (hk23 : ∀ (h : AH) (a1 : Nat) (a2 : Nat) (a3 : Nat) (x4 : Int32), kh23 h a1 a2 a3 x4 = some r → X cx 8 (zQ cx h0 (.inl (some (.int r.1))) r.2) h 23 [(0, .ref b), (1, .ref a1), (2, .ref a2), (3, .ref a3), (4, .int x4)] []) {a1 : Nat} {a2 : Nat} {a3 : Nat} {x4 : Int32} {t0 : Int64} {t1 : Int64} (hF : B_L_law_2314 h L xs kh23 a1 a2 a3 x4 t0 t1 = some r) : X cx 8 (zQ cx h0 (.inl (some (.int r.1))) r.2) h 2314 [(0, .ref b), (1, .ref a1), (2, .ref a2), (3, .ref a3), (4, .int x4)] [.long t0, .long t1] := by
  refine x_lcmp hC dL_law_2314 ?_
  refine x_if_eq (tgt := 2320) hC dL_law_2315 (by decide) (fun u1011 => ?_) (fun u1011 => ?_)
  · have hF := it_t u1011 hF
    exact w_L_law_2320 hC hX hk23 hF
  · have hF := it_f u1011 hF
    refine X.sub (lv' := []) [] rfl ?_
    exact w_L_law_2318 hC hX  hF
theorem w_L_law_2294 {cx : zX} {h0 : AH} (hC : Cx cx RX0 cL_law 8 8192 104096 (some .boolean) h0) {b L : Nat} {xs : Nat → Int32} (hX : zScr cx.G b L xs) {h : AH} {r : (Int32 × AH)}    (hF : B_L_law_2294 h L xs   = some r) : X cx 8 (zQ cx h0 (.inl (some (.int r.1))) r.2) h 2294 [] [] := by
  refine x_iconst (v := 0) hC dL_law_2294 (by decide) ?_
  have e := some_e hF
  subst e
  exact x_zret (ty := .boolean) hC (bl_n (Or.inl rfl)) dL_law_2295
theorem w_L_law_2248 {cx : zX} {h0 : AH} (hC : Cx cx RX0 cL_law 8 8192 104096 (some .boolean) h0) {b L : Nat} {xs : Nat → Int32} (hX : zScr cx.G b L xs) {h : AH} {r : (Int32 × AH)} {kh23 : AH → Nat → Nat → Nat → Int32 → Option (Int32 × AH)} (hk23 : ∀ (h : AH) (a1 : Nat) (a2 : Nat) (a3 : Nat) (x4 : Int32), kh23 h a1 a2 a3 x4 = some r → X cx 8 (zQ cx h0 (.inl (some (.int r.1))) r.2) h 23 [(0, .ref b), (1, .ref a1), (2, .ref a2), (3, .ref a3), (4, .int x4)] []) {a1 : Nat} {a2 : Nat} {a3 : Nat} {x4 : Int32} (hF : B_L_law_2248 h L xs kh23 a1 a2 a3 x4 = some r) : X cx 8 (zQ cx h0 (.inl (some (.int r.1))) r.2) h 2248 [(0, .ref b), (1, .ref a1), (2, .ref a2), (3, .ref a3), (4, .int x4)] [] := by
  refine x_aload_n hC dL_law_2248 1 rfl ?_
  refine x_aload_n hC dL_law_2249 0 rfl ?_
  refine x_iload hC dL_law_2250 4 rfl ?_
  refine x_iconst (v := 1) hC dL_law_2252 (by decide) ?_
  refine x_iadd hC dL_law_2253 ?_
  obtain ⟨g1012, hF⟩ := gd_e hF
  refine x_sld hC hX g1012 dL_law_2254 ?_
  refine x_aload_n hC dL_law_2255 0 rfl ?_
  refine x_iload hC dL_law_2256 4 rfl ?_
  refine x_iconst (v := 2) hC dL_law_2258 (by decide) ?_
  refine x_iadd hC dL_law_2259 ?_
  obtain ⟨g1013, hF⟩ := gd_e hF
  refine x_sld hC hX g1013 dL_law_2260 ?_
  refine x_aload_n hC dL_law_2261 3 rfl ?_
  obtain ⟨r1014, e1015, hF⟩ := bd_e hF
  refine xk_SW (As := [.ref a1, .int (xs (ix (x4 + 1))), .int (xs (ix (x4 + 2))), .ref a3]) (st := []) hC (m_X0_story hC.fl e1015) q1671 q1672 q1673 q96 hy_X0_story ⟨Nat.le_of_ble_eq_true rfl, Nat.le_of_ble_eq_true rfl⟩ (Nat.le_of_ble_eq_true rfl) rfl dL_law_2262 ?_
  refine x_istore (lv' := [(0, .ref b), (1, .ref a1), (2, .ref a2), (3, .ref a3), (4, .int x4), (5, .int r1014.1)]) hC dL_law_2265 (by decide) [1, 2, 3, 4, 5, 0] rfl ?_
  refine x_aload_n hC dL_law_2267 2 rfl ?_
  refine x_aload_n hC dL_law_2268 0 rfl ?_
  refine x_iload hC dL_law_2269 4 rfl ?_
  refine x_iconst (v := 1) hC dL_law_2271 (by decide) ?_
  refine x_iadd hC dL_law_2272 ?_
  obtain ⟨g1016, hF⟩ := gd_e hF
  refine x_sld hC hX g1016 dL_law_2273 ?_
  refine x_aload_n hC dL_law_2274 0 rfl ?_
  refine x_iload hC dL_law_2275 4 rfl ?_
  refine x_iconst (v := 2) hC dL_law_2277 (by decide) ?_
  refine x_iadd hC dL_law_2278 ?_
  obtain ⟨g1017, hF⟩ := gd_e hF
  refine x_sld hC hX g1017 dL_law_2279 ?_
  obtain ⟨g1018, hF⟩ := gd_e hF
  obtain ⟨r1019, e1020, hF⟩ := bd_e hF
  refine xk_V (κ := 8) (As := [.int (xs (ix (x4 + 1))), .int (xs (ix (x4 + 2)))]) (st := []) hC (m_X8_story hC.fl e1020) g1018 rfl q2341 q2342 q2343 q2344 q107 hy_X8_story ⟨Nat.le_of_ble_eq_true rfl, Nat.le_of_ble_eq_true rfl⟩ (Nat.le_of_ble_eq_true rfl) rfl dL_law_2280 ?_
  refine x_istore (lv' := [(0, .ref b), (1, .ref a1), (2, .ref a2), (3, .ref a3), (4, .int x4), (5, .int r1014.1), (6, .int r1019.1)]) hC dL_law_2283 (by decide) [1, 2, 3, 4, 5, 6, 0] rfl ?_
  refine x_aload_n hC dL_law_2285 2 rfl ?_
  obtain ⟨g1021, hF⟩ := gd_e hF
  obtain ⟨r1022, e1023, hF⟩ := bd_e hF
  refine xk_V (κ := 8) (As := []) (st := []) hC (m_X8_thrown hC.fl e1023) g1021 rfl q1950 q1951 q1952 q1953 q107 hy_X8_thrown ⟨Nat.le_of_ble_eq_true rfl, Nat.le_of_ble_eq_true rfl⟩ (Nat.le_of_ble_eq_true rfl) rfl dL_law_2286 ?_
  refine x_iload hC dL_law_2289 5 rfl ?_
  refine x_icmp_eq (tgt := 2296) hC dL_law_2291 (by decide) (fun u1027 => ?_) (fun u1027 => ?_)
  · have hF := it_t u1027 hF
    refine x_iload hC dL_law_2296 5 rfl ?_
    refine x_if_ne (tgt := 2320) hC dL_law_2298 (by decide) (fun u1026 => ?_) (fun u1026 => ?_)
    · have hF := it_f u1026 hF
      refine X.sub (lv' := [(0, .ref b), (1, .ref a1), (2, .ref a2), (3, .ref a3), (4, .int x4)]) [0, 1, 2, 3, 4] rfl ?_
      exact w_L_law_2320 hC hX hk23 hF
    · have hF := it_t u1026 hF
      refine x_aload_n hC dL_law_2301 3 rfl ?_
      refine x_iconst (v := 0) hC dL_law_2302 (by decide) ?_
      obtain ⟨g1024, hF⟩ := gd_e hF
      refine x_lald hC g1024.1 g1024.2 dL_law_2303 ?_
      refine x_iload hC dL_law_2304 6 rfl ?_
      refine x_if_eq (tgt := 2313) hC dL_law_2306 (by decide) (fun u1025 => ?_) (fun u1025 => ?_)
      · have hF := it_t u1025 hF
        refine x_lconst (v := 0) hC dL_law_2313 (by decide) ?_
        refine X.sub (lv' := [(0, .ref b), (1, .ref a1), (2, .ref a2), (3, .ref a3), (4, .int x4)]) [0, 1, 2, 3, 4] rfl ?_
        exact w_L_law_2314 hC hX hk23 hF
      · have hF := it_f u1025 hF
        refine x_lconst (v := 1) hC dL_law_2309 (by decide) ?_
        refine x_goto (tgt := 2314) hC dL_law_2310 (by decide) ?_
        refine X.sub (lv' := [(0, .ref b), (1, .ref a1), (2, .ref a2), (3, .ref a3), (4, .int x4)]) [0, 1, 2, 3, 4] rfl ?_
        exact w_L_law_2314 hC hX hk23 hF
  · have hF := it_f u1027 hF
    refine X.sub (lv' := []) [] rfl ?_
    exact w_L_law_2294 hC hX  hF
theorem w_L_law_2400 {cx : zX} {h0 : AH} (hC : Cx cx RX0 cL_law 8 8192 104096 (some .boolean) h0) {b L : Nat} {xs : Nat → Int32} (hX : zScr cx.G b L xs) {h : AH} {r : (Int32 × AH)} {kh23 : AH → Nat → Nat → Nat → Int32 → Option (Int32 × AH)} (hk23 : ∀ (h : AH) (a1 : Nat) (a2 : Nat) (a3 : Nat) (x4 : Int32), kh23 h a1 a2 a3 x4 = some r → X cx 8 (zQ cx h0 (.inl (some (.int r.1))) r.2) h 23 [(0, .ref b), (1, .ref a1), (2, .ref a2), (3, .ref a3), (4, .int x4)] []) {a1 : Nat} {a2 : Nat} {a3 : Nat} {x4 : Int32} (hF : B_L_law_2400 h L xs kh23 a1 a2 a3 x4 = some r) : X cx 8 (zQ cx h0 (.inl (some (.int r.1))) r.2) h 2400 [(0, .ref b), (1, .ref a1), (2, .ref a2), (3, .ref a3), (4, .int x4)] [] := by
  refine x_goto (tgt := 2923) hC dL_law_2400 (by decide) ?_
  exact w_L_law_2923 hC hX hk23 hF
theorem w_L_law_2398 {cx : zX} {h0 : AH} (hC : Cx cx RX0 cL_law 8 8192 104096 (some .boolean) h0) {b L : Nat} {xs : Nat → Int32} (hX : zScr cx.G b L xs) {h : AH} {r : (Int32 × AH)}    (hF : B_L_law_2398 h L xs   = some r) : X cx 8 (zQ cx h0 (.inl (some (.int r.1))) r.2) h 2398 [] [] := by
  refine x_iconst (v := 0) hC dL_law_2398 (by decide) ?_
  have e := some_e hF
  subst e
  exact x_zret (ty := .boolean) hC (bl_n (Or.inl rfl)) dL_law_2399
theorem w_L_law_2381 {cx : zX} {h0 : AH} (hC : Cx cx RX0 cL_law 8 8192 104096 (some .boolean) h0) {b L : Nat} {xs : Nat → Int32} (hX : zScr cx.G b L xs) {h : AH} {r : (Int32 × AH)}    (hF : B_L_law_2381 h L xs   = some r) : X cx 8 (zQ cx h0 (.inl (some (.int r.1))) r.2) h 2381 [] [] := by
  refine x_iconst (v := 0) hC dL_law_2381 (by decide) ?_
  have e := some_e hF
  subst e
  exact x_zret (ty := .boolean) hC (bl_n (Or.inl rfl)) dL_law_2382
theorem w_L_law_2323 {cx : zX} {h0 : AH} (hC : Cx cx RX0 cL_law 8 8192 104096 (some .boolean) h0) {b L : Nat} {xs : Nat → Int32} (hX : zScr cx.G b L xs) {h : AH} {r : (Int32 × AH)} {kh23 : AH → Nat → Nat → Nat → Int32 → Option (Int32 × AH)} (hk23 : ∀ (h : AH) (a1 : Nat) (a2 : Nat) (a3 : Nat) (x4 : Int32), kh23 h a1 a2 a3 x4 = some r → X cx 8 (zQ cx h0 (.inl (some (.int r.1))) r.2) h 23 [(0, .ref b), (1, .ref a1), (2, .ref a2), (3, .ref a3), (4, .int x4)] []) {a1 : Nat} {a2 : Nat} {a3 : Nat} {x4 : Int32} (hF : B_L_law_2323 h L xs kh23 a1 a2 a3 x4 = some r) : X cx 8 (zQ cx h0 (.inl (some (.int r.1))) r.2) h 2323 [(0, .ref b), (1, .ref a1), (2, .ref a2), (3, .ref a3), (4, .int x4)] [] := by
  refine x_aload_n hC dL_law_2323 1 rfl ?_
  refine x_aload_n hC dL_law_2324 0 rfl ?_
  refine x_iload hC dL_law_2325 4 rfl ?_
  refine x_iconst (v := 1) hC dL_law_2327 (by decide) ?_
  refine x_iadd hC dL_law_2328 ?_
  obtain ⟨g1028, hF⟩ := gd_e hF
  refine x_sld hC hX g1028 dL_law_2329 ?_
  refine x_aload_n hC dL_law_2330 0 rfl ?_
  refine x_iload hC dL_law_2331 4 rfl ?_
  refine x_iconst (v := 2) hC dL_law_2333 (by decide) ?_
  refine x_iadd hC dL_law_2334 ?_
  obtain ⟨g1029, hF⟩ := gd_e hF
  refine x_sld hC hX g1029 dL_law_2335 ?_
  refine x_aload_n hC dL_law_2336 0 rfl ?_
  refine x_iload hC dL_law_2337 4 rfl ?_
  refine x_iconst (v := 3) hC dL_law_2339 (by decide) ?_
  refine x_iadd hC dL_law_2340 ?_
  obtain ⟨g1030, hF⟩ := gd_e hF
  refine x_sld hC hX g1030 dL_law_2341 ?_
  refine x_aload_n hC dL_law_2342 3 rfl ?_
  obtain ⟨r1031, e1032, hF⟩ := bd_e hF
  refine xk_SW (As := [.ref a1, .int (xs (ix (x4 + 1))), .int (xs (ix (x4 + 2))), .int (xs (ix (x4 + 3))), .ref a3]) (st := []) hC (m_X0_rise hC.fl e1032) q1720 q1721 q1722 q96 hy_X0_rise ⟨Nat.le_of_ble_eq_true rfl, Nat.le_of_ble_eq_true rfl⟩ (Nat.le_of_ble_eq_true rfl) rfl dL_law_2343 ?_
  refine x_istore (lv' := [(0, .ref b), (1, .ref a1), (2, .ref a2), (3, .ref a3), (4, .int x4), (5, .int r1031.1)]) hC dL_law_2346 (by decide) [1, 2, 3, 4, 5, 0] rfl ?_
  refine x_aload_n hC dL_law_2348 2 rfl ?_
  refine x_aload_n hC dL_law_2349 0 rfl ?_
  refine x_iload hC dL_law_2350 4 rfl ?_
  refine x_iconst (v := 1) hC dL_law_2352 (by decide) ?_
  refine x_iadd hC dL_law_2353 ?_
  obtain ⟨g1033, hF⟩ := gd_e hF
  refine x_sld hC hX g1033 dL_law_2354 ?_
  refine x_aload_n hC dL_law_2355 0 rfl ?_
  refine x_iload hC dL_law_2356 4 rfl ?_
  refine x_iconst (v := 2) hC dL_law_2358 (by decide) ?_
  refine x_iadd hC dL_law_2359 ?_
  obtain ⟨g1034, hF⟩ := gd_e hF
  refine x_sld hC hX g1034 dL_law_2360 ?_
  refine x_aload_n hC dL_law_2361 0 rfl ?_
  refine x_iload hC dL_law_2362 4 rfl ?_
  refine x_iconst (v := 3) hC dL_law_2364 (by decide) ?_
  refine x_iadd hC dL_law_2365 ?_
  obtain ⟨g1035, hF⟩ := gd_e hF
  refine x_sld hC hX g1035 dL_law_2366 ?_
  obtain ⟨g1036, hF⟩ := gd_e hF
  obtain ⟨r1037, e1038, hF⟩ := bd_e hF
  refine xk_V (κ := 8) (As := [.int (xs (ix (x4 + 1))), .int (xs (ix (x4 + 2))), .int (xs (ix (x4 + 3)))]) (st := []) hC (m_X8_rise hC.fl e1038) g1036 rfl q2349 q2350 q2351 q2352 q107 hy_X8_rise ⟨Nat.le_of_ble_eq_true rfl, Nat.le_of_ble_eq_true rfl⟩ (Nat.le_of_ble_eq_true rfl) rfl dL_law_2367 ?_
  refine x_istore (lv' := [(0, .ref b), (1, .ref a1), (2, .ref a2), (3, .ref a3), (4, .int x4), (5, .int r1031.1), (6, .int r1037.1)]) hC dL_law_2370 (by decide) [1, 2, 3, 4, 5, 6, 0] rfl ?_
  refine x_aload_n hC dL_law_2372 2 rfl ?_
  obtain ⟨g1039, hF⟩ := gd_e hF
  obtain ⟨r1040, e1041, hF⟩ := bd_e hF
  refine xk_V (κ := 8) (As := []) (st := []) hC (m_X8_thrown hC.fl e1041) g1039 rfl q1950 q1951 q1952 q1953 q107 hy_X8_thrown ⟨Nat.le_of_ble_eq_true rfl, Nat.le_of_ble_eq_true rfl⟩ (Nat.le_of_ble_eq_true rfl) rfl dL_law_2373 ?_
  refine x_iload hC dL_law_2376 5 rfl ?_
  refine x_icmp_eq (tgt := 2383) hC dL_law_2378 (by decide) (fun u1045 => ?_) (fun u1045 => ?_)
  · have hF := it_t u1045 hF
    refine x_iload hC dL_law_2383 5 rfl ?_
    refine x_if_ne (tgt := 2400) hC dL_law_2385 (by decide) (fun u1044 => ?_) (fun u1044 => ?_)
    · have hF := it_f u1044 hF
      refine X.sub (lv' := [(0, .ref b), (1, .ref a1), (2, .ref a2), (3, .ref a3), (4, .int x4)]) [0, 1, 2, 3, 4] rfl ?_
      exact w_L_law_2400 hC hX hk23 hF
    · have hF := it_t u1044 hF
      refine x_aload_n hC dL_law_2388 3 rfl ?_
      refine x_iconst (v := 0) hC dL_law_2389 (by decide) ?_
      obtain ⟨g1042, hF⟩ := gd_e hF
      refine x_lald hC g1042.1 g1042.2 dL_law_2390 ?_
      refine x_iload hC dL_law_2391 6 rfl ?_
      refine x_i2l hC dL_law_2393 ?_
      refine x_lcmp hC dL_law_2394 ?_
      refine x_if_eq (tgt := 2400) hC dL_law_2395 (by decide) (fun u1043 => ?_) (fun u1043 => ?_)
      · have hF := it_t u1043 hF
        refine X.sub (lv' := [(0, .ref b), (1, .ref a1), (2, .ref a2), (3, .ref a3), (4, .int x4)]) [0, 1, 2, 3, 4] rfl ?_
        exact w_L_law_2400 hC hX hk23 hF
      · have hF := it_f u1043 hF
        refine X.sub (lv' := []) [] rfl ?_
        exact w_L_law_2398 hC hX  hF
  · have hF := it_f u1045 hF
    refine X.sub (lv' := []) [] rfl ?_
    exact w_L_law_2381 hC hX  hF
theorem w_L_law_2403 {cx : zX} {h0 : AH} (hC : Cx cx RX0 cL_law 8 8192 104096 (some .boolean) h0) {b L : Nat} {xs : Nat → Int32} (hX : zScr cx.G b L xs) {h : AH} {r : (Int32 × AH)} {kh23 : AH → Nat → Nat → Nat → Int32 → Option (Int32 × AH)} (hk23 : ∀ (h : AH) (a1 : Nat) (a2 : Nat) (a3 : Nat) (x4 : Int32), kh23 h a1 a2 a3 x4 = some r → X cx 8 (zQ cx h0 (.inl (some (.int r.1))) r.2) h 23 [(0, .ref b), (1, .ref a1), (2, .ref a2), (3, .ref a3), (4, .int x4)] []) {a1 : Nat} {a2 : Nat} {a3 : Nat} {x4 : Int32} (hF : B_L_law_2403 h L xs kh23 a1 a2 a3 x4 = some r) : X cx 8 (zQ cx h0 (.inl (some (.int r.1))) r.2) h 2403 [(0, .ref b), (1, .ref a1), (2, .ref a2), (3, .ref a3), (4, .int x4)] [] := by
  refine x_aload_n hC dL_law_2403 1 rfl ?_
  obtain ⟨g1046, hF⟩ := gd_e hF
  obtain ⟨r1047, e1048, hF⟩ := bd_e hF
  refine xk_V (κ := 1) (As := []) (st := []) hC (m_X1_odds hC.fl e1048) g1046 rfl q447 q448 q449 q450 q97 hy_X1_odds ⟨Nat.le_of_ble_eq_true rfl, Nat.le_of_ble_eq_true rfl⟩ (Nat.le_of_ble_eq_true rfl) rfl dL_law_2404 ?_
  refine x_aload_n hC dL_law_2407 2 rfl ?_
  obtain ⟨g1049, hF⟩ := gd_e hF
  obtain ⟨r1050, e1051, hF⟩ := bd_e hF
  refine xk_V (κ := 8) (As := []) (st := []) hC (m_X8_odds hC.fl e1051) g1049 rfl q2356 q2357 q2358 q2359 q107 hy_X8_odds ⟨Nat.le_of_ble_eq_true rfl, Nat.le_of_ble_eq_true rfl⟩ (Nat.le_of_ble_eq_true rfl) rfl dL_law_2408 ?_
  refine x_goto (tgt := 2923) hC dL_law_2411 (by decide) ?_
  exact w_L_law_2923 hC hX hk23 hF
theorem w_L_law_2503 {cx : zX} {h0 : AH} (hC : Cx cx RX0 cL_law 8 8192 104096 (some .boolean) h0) {b L : Nat} {xs : Nat → Int32} (hX : zScr cx.G b L xs) {h : AH} {r : (Int32 × AH)} {kh23 : AH → Nat → Nat → Nat → Int32 → Option (Int32 × AH)} (hk23 : ∀ (h : AH) (a1 : Nat) (a2 : Nat) (a3 : Nat) (x4 : Int32), kh23 h a1 a2 a3 x4 = some r → X cx 8 (zQ cx h0 (.inl (some (.int r.1))) r.2) h 23 [(0, .ref b), (1, .ref a1), (2, .ref a2), (3, .ref a3), (4, .int x4)] []) {a1 : Nat} {a2 : Nat} {a3 : Nat} {x4 : Int32} (hF : B_L_law_2503 h L xs kh23 a1 a2 a3 x4 = some r) : X cx 8 (zQ cx h0 (.inl (some (.int r.1))) r.2) h 2503 [(0, .ref b), (1, .ref a1), (2, .ref a2), (3, .ref a3), (4, .int x4)] [] := by
  refine x_goto (tgt := 2923) hC dL_law_2503 (by decide) ?_
  exact w_L_law_2923 hC hX hk23 hF
theorem w_L_law_2501 {cx : zX} {h0 : AH} (hC : Cx cx RX0 cL_law 8 8192 104096 (some .boolean) h0) {b L : Nat} {xs : Nat → Int32} (hX : zScr cx.G b L xs) {h : AH} {r : (Int32 × AH)}    (hF : B_L_law_2501 h L xs   = some r) : X cx 8 (zQ cx h0 (.inl (some (.int r.1))) r.2) h 2501 [] [] := by
  refine x_iconst (v := 0) hC dL_law_2501 (by decide) ?_
  have e := some_e hF
  subst e
  exact x_zret (ty := .boolean) hC (bl_n (Or.inl rfl)) dL_law_2502
theorem w_L_law_2484 {cx : zX} {h0 : AH} (hC : Cx cx RX0 cL_law 8 8192 104096 (some .boolean) h0) {b L : Nat} {xs : Nat → Int32} (hX : zScr cx.G b L xs) {h : AH} {r : (Int32 × AH)}    (hF : B_L_law_2484 h L xs   = some r) : X cx 8 (zQ cx h0 (.inl (some (.int r.1))) r.2) h 2484 [] [] := by
  refine x_iconst (v := 0) hC dL_law_2484 (by decide) ?_
  have e := some_e hF
  subst e
  exact x_zret (ty := .boolean) hC (bl_n (Or.inl rfl)) dL_law_2485
theorem w_L_law_2414 {cx : zX} {h0 : AH} (hC : Cx cx RX0 cL_law 8 8192 104096 (some .boolean) h0) {b L : Nat} {xs : Nat → Int32} (hX : zScr cx.G b L xs) {h : AH} {r : (Int32 × AH)} {kh23 : AH → Nat → Nat → Nat → Int32 → Option (Int32 × AH)} (hk23 : ∀ (h : AH) (a1 : Nat) (a2 : Nat) (a3 : Nat) (x4 : Int32), kh23 h a1 a2 a3 x4 = some r → X cx 8 (zQ cx h0 (.inl (some (.int r.1))) r.2) h 23 [(0, .ref b), (1, .ref a1), (2, .ref a2), (3, .ref a3), (4, .int x4)] []) {a1 : Nat} {a2 : Nat} {a3 : Nat} {x4 : Int32} (hF : B_L_law_2414 h L xs kh23 a1 a2 a3 x4 = some r) : X cx 8 (zQ cx h0 (.inl (some (.int r.1))) r.2) h 2414 [(0, .ref b), (1, .ref a1), (2, .ref a2), (3, .ref a3), (4, .int x4)] [] := by
  refine x_aload_n hC dL_law_2414 1 rfl ?_
  refine x_aload_n hC dL_law_2415 0 rfl ?_
  refine x_iload hC dL_law_2416 4 rfl ?_
  refine x_iconst (v := 1) hC dL_law_2418 (by decide) ?_
  refine x_iadd hC dL_law_2419 ?_
  obtain ⟨g1052, hF⟩ := gd_e hF
  refine x_sld hC hX g1052 dL_law_2420 ?_
  refine x_aload_n hC dL_law_2421 0 rfl ?_
  refine x_iload hC dL_law_2422 4 rfl ?_
  refine x_iconst (v := 2) hC dL_law_2424 (by decide) ?_
  refine x_iadd hC dL_law_2425 ?_
  obtain ⟨g1053, hF⟩ := gd_e hF
  refine x_sld hC hX g1053 dL_law_2426 ?_
  refine x_aload_n hC dL_law_2427 0 rfl ?_
  refine x_iload hC dL_law_2428 4 rfl ?_
  refine x_iconst (v := 3) hC dL_law_2430 (by decide) ?_
  refine x_iadd hC dL_law_2431 ?_
  obtain ⟨g1054, hF⟩ := gd_e hF
  refine x_sld hC hX g1054 dL_law_2432 ?_
  refine x_aload_n hC dL_law_2433 0 rfl ?_
  refine x_iload hC dL_law_2434 4 rfl ?_
  refine x_iconst (v := 4) hC dL_law_2436 (by decide) ?_
  refine x_iadd hC dL_law_2437 ?_
  obtain ⟨g1055, hF⟩ := gd_e hF
  refine x_sld hC hX g1055 dL_law_2438 ?_
  refine x_aload_n hC dL_law_2439 3 rfl ?_
  obtain ⟨r1056, e1057, hF⟩ := bd_e hF
  refine xk_SW (As := [.ref a1, .int (xs (ix (x4 + 1))), .int (xs (ix (x4 + 2))), .int (xs (ix (x4 + 3))), .int (xs (ix (x4 + 4))), .ref a3]) (st := []) hC (m_X0_fill hC.fl e1057) q1728 q1729 q1730 q96 hy_X0_fill ⟨Nat.le_of_ble_eq_true rfl, Nat.le_of_ble_eq_true rfl⟩ (Nat.le_of_ble_eq_true rfl) rfl dL_law_2440 ?_
  refine x_istore (lv' := [(0, .ref b), (1, .ref a1), (2, .ref a2), (3, .ref a3), (4, .int x4), (5, .int r1056.1)]) hC dL_law_2443 (by decide) [1, 2, 3, 4, 5, 0] rfl ?_
  refine x_aload_n hC dL_law_2445 2 rfl ?_
  refine x_aload_n hC dL_law_2446 0 rfl ?_
  refine x_iload hC dL_law_2447 4 rfl ?_
  refine x_iconst (v := 1) hC dL_law_2449 (by decide) ?_
  refine x_iadd hC dL_law_2450 ?_
  obtain ⟨g1058, hF⟩ := gd_e hF
  refine x_sld hC hX g1058 dL_law_2451 ?_
  refine x_aload_n hC dL_law_2452 0 rfl ?_
  refine x_iload hC dL_law_2453 4 rfl ?_
  refine x_iconst (v := 2) hC dL_law_2455 (by decide) ?_
  refine x_iadd hC dL_law_2456 ?_
  obtain ⟨g1059, hF⟩ := gd_e hF
  refine x_sld hC hX g1059 dL_law_2457 ?_
  refine x_aload_n hC dL_law_2458 0 rfl ?_
  refine x_iload hC dL_law_2459 4 rfl ?_
  refine x_iconst (v := 3) hC dL_law_2461 (by decide) ?_
  refine x_iadd hC dL_law_2462 ?_
  obtain ⟨g1060, hF⟩ := gd_e hF
  refine x_sld hC hX g1060 dL_law_2463 ?_
  refine x_aload_n hC dL_law_2464 0 rfl ?_
  refine x_iload hC dL_law_2465 4 rfl ?_
  refine x_iconst (v := 4) hC dL_law_2467 (by decide) ?_
  refine x_iadd hC dL_law_2468 ?_
  obtain ⟨g1061, hF⟩ := gd_e hF
  refine x_sld hC hX g1061 dL_law_2469 ?_
  obtain ⟨g1062, hF⟩ := gd_e hF
  obtain ⟨r1063, e1064, hF⟩ := bd_e hF
  refine xk_V (κ := 8) (As := [.int (xs (ix (x4 + 1))), .int (xs (ix (x4 + 2))), .int (xs (ix (x4 + 3))), .int (xs (ix (x4 + 4)))]) (st := []) hC (m_X8_fill hC.fl e1064) g1062 rfl q2360 q2361 q2362 q2363 q107 hy_X8_fill ⟨Nat.le_of_ble_eq_true rfl, Nat.le_of_ble_eq_true rfl⟩ (Nat.le_of_ble_eq_true rfl) rfl dL_law_2470 ?_
  refine x_istore (lv' := [(0, .ref b), (1, .ref a1), (2, .ref a2), (3, .ref a3), (4, .int x4), (5, .int r1056.1), (6, .int r1063.1)]) hC dL_law_2473 (by decide) [1, 2, 3, 4, 5, 6, 0] rfl ?_
  refine x_aload_n hC dL_law_2475 2 rfl ?_
  obtain ⟨g1065, hF⟩ := gd_e hF
  obtain ⟨r1066, e1067, hF⟩ := bd_e hF
  refine xk_V (κ := 8) (As := []) (st := []) hC (m_X8_thrown hC.fl e1067) g1065 rfl q1950 q1951 q1952 q1953 q107 hy_X8_thrown ⟨Nat.le_of_ble_eq_true rfl, Nat.le_of_ble_eq_true rfl⟩ (Nat.le_of_ble_eq_true rfl) rfl dL_law_2476 ?_
  refine x_iload hC dL_law_2479 5 rfl ?_
  refine x_icmp_eq (tgt := 2486) hC dL_law_2481 (by decide) (fun u1071 => ?_) (fun u1071 => ?_)
  · have hF := it_t u1071 hF
    refine x_iload hC dL_law_2486 5 rfl ?_
    refine x_if_ne (tgt := 2503) hC dL_law_2488 (by decide) (fun u1070 => ?_) (fun u1070 => ?_)
    · have hF := it_f u1070 hF
      refine X.sub (lv' := [(0, .ref b), (1, .ref a1), (2, .ref a2), (3, .ref a3), (4, .int x4)]) [0, 1, 2, 3, 4] rfl ?_
      exact w_L_law_2503 hC hX hk23 hF
    · have hF := it_t u1070 hF
      refine x_aload_n hC dL_law_2491 3 rfl ?_
      refine x_iconst (v := 0) hC dL_law_2492 (by decide) ?_
      obtain ⟨g1068, hF⟩ := gd_e hF
      refine x_lald hC g1068.1 g1068.2 dL_law_2493 ?_
      refine x_iload hC dL_law_2494 6 rfl ?_
      refine x_i2l hC dL_law_2496 ?_
      refine x_lcmp hC dL_law_2497 ?_
      refine x_if_eq (tgt := 2503) hC dL_law_2498 (by decide) (fun u1069 => ?_) (fun u1069 => ?_)
      · have hF := it_t u1069 hF
        refine X.sub (lv' := [(0, .ref b), (1, .ref a1), (2, .ref a2), (3, .ref a3), (4, .int x4)]) [0, 1, 2, 3, 4] rfl ?_
        exact w_L_law_2503 hC hX hk23 hF
      · have hF := it_f u1069 hF
        refine X.sub (lv' := []) [] rfl ?_
        exact w_L_law_2501 hC hX  hF
  · have hF := it_f u1071 hF
    refine X.sub (lv' := []) [] rfl ?_
    exact w_L_law_2484 hC hX  hF
theorem w_L_law_2595 {cx : zX} {h0 : AH} (hC : Cx cx RX0 cL_law 8 8192 104096 (some .boolean) h0) {b L : Nat} {xs : Nat → Int32} (hX : zScr cx.G b L xs) {h : AH} {r : (Int32 × AH)} {kh23 : AH → Nat → Nat → Nat → Int32 → Option (Int32 × AH)} (hk23 : ∀ (h : AH) (a1 : Nat) (a2 : Nat) (a3 : Nat) (x4 : Int32), kh23 h a1 a2 a3 x4 = some r → X cx 8 (zQ cx h0 (.inl (some (.int r.1))) r.2) h 23 [(0, .ref b), (1, .ref a1), (2, .ref a2), (3, .ref a3), (4, .int x4)] []) {a1 : Nat} {a2 : Nat} {a3 : Nat} {x4 : Int32} (hF : B_L_law_2595 h L xs kh23 a1 a2 a3 x4 = some r) : X cx 8 (zQ cx h0 (.inl (some (.int r.1))) r.2) h 2595 [(0, .ref b), (1, .ref a1), (2, .ref a2), (3, .ref a3), (4, .int x4)] [] := by
  refine x_goto (tgt := 2923) hC dL_law_2595 (by decide) ?_
  exact w_L_law_2923 hC hX hk23 hF
theorem w_L_law_2593 {cx : zX} {h0 : AH} (hC : Cx cx RX0 cL_law 8 8192 104096 (some .boolean) h0) {b L : Nat} {xs : Nat → Int32} (hX : zScr cx.G b L xs) {h : AH} {r : (Int32 × AH)}    (hF : B_L_law_2593 h L xs   = some r) : X cx 8 (zQ cx h0 (.inl (some (.int r.1))) r.2) h 2593 [] [] := by
  refine x_iconst (v := 0) hC dL_law_2593 (by decide) ?_
  have e := some_e hF
  subst e
  exact x_zret (ty := .boolean) hC (bl_n (Or.inl rfl)) dL_law_2594
theorem w_L_law_2576 {cx : zX} {h0 : AH} (hC : Cx cx RX0 cL_law 8 8192 104096 (some .boolean) h0) {b L : Nat} {xs : Nat → Int32} (hX : zScr cx.G b L xs) {h : AH} {r : (Int32 × AH)}    (hF : B_L_law_2576 h L xs   = some r) : X cx 8 (zQ cx h0 (.inl (some (.int r.1))) r.2) h 2576 [] [] := by
  refine x_iconst (v := 0) hC dL_law_2576 (by decide) ?_
  have e := some_e hF
  subst e
  exact x_zret (ty := .boolean) hC (bl_n (Or.inl rfl)) dL_law_2577
theorem w_L_law_2506 {cx : zX} {h0 : AH} (hC : Cx cx RX0 cL_law 8 8192 104096 (some .boolean) h0) {b L : Nat} {xs : Nat → Int32} (hX : zScr cx.G b L xs) {h : AH} {r : (Int32 × AH)} {kh23 : AH → Nat → Nat → Nat → Int32 → Option (Int32 × AH)} (hk23 : ∀ (h : AH) (a1 : Nat) (a2 : Nat) (a3 : Nat) (x4 : Int32), kh23 h a1 a2 a3 x4 = some r → X cx 8 (zQ cx h0 (.inl (some (.int r.1))) r.2) h 23 [(0, .ref b), (1, .ref a1), (2, .ref a2), (3, .ref a3), (4, .int x4)] []) {a1 : Nat} {a2 : Nat} {a3 : Nat} {x4 : Int32} (hF : B_L_law_2506 h L xs kh23 a1 a2 a3 x4 = some r) : X cx 8 (zQ cx h0 (.inl (some (.int r.1))) r.2) h 2506 [(0, .ref b), (1, .ref a1), (2, .ref a2), (3, .ref a3), (4, .int x4)] [] := by
  refine x_aload_n hC dL_law_2506 1 rfl ?_
  refine x_aload_n hC dL_law_2507 0 rfl ?_
  refine x_iload hC dL_law_2508 4 rfl ?_
  refine x_iconst (v := 1) hC dL_law_2510 (by decide) ?_
  refine x_iadd hC dL_law_2511 ?_
  obtain ⟨g1072, hF⟩ := gd_e hF
  refine x_sld hC hX g1072 dL_law_2512 ?_
  refine x_aload_n hC dL_law_2513 0 rfl ?_
  refine x_iload hC dL_law_2514 4 rfl ?_
  refine x_iconst (v := 2) hC dL_law_2516 (by decide) ?_
  refine x_iadd hC dL_law_2517 ?_
  obtain ⟨g1073, hF⟩ := gd_e hF
  refine x_sld hC hX g1073 dL_law_2518 ?_
  refine x_aload_n hC dL_law_2519 0 rfl ?_
  refine x_iload hC dL_law_2520 4 rfl ?_
  refine x_iconst (v := 3) hC dL_law_2522 (by decide) ?_
  refine x_iadd hC dL_law_2523 ?_
  obtain ⟨g1074, hF⟩ := gd_e hF
  refine x_sld hC hX g1074 dL_law_2524 ?_
  refine x_aload_n hC dL_law_2525 0 rfl ?_
  refine x_iload hC dL_law_2526 4 rfl ?_
  refine x_iconst (v := 4) hC dL_law_2528 (by decide) ?_
  refine x_iadd hC dL_law_2529 ?_
  obtain ⟨g1075, hF⟩ := gd_e hF
  refine x_sld hC hX g1075 dL_law_2530 ?_
  refine x_aload_n hC dL_law_2531 3 rfl ?_
  obtain ⟨r1076, e1077, hF⟩ := bd_e hF
  refine xk_SW (As := [.ref a1, .int (xs (ix (x4 + 1))), .int (xs (ix (x4 + 2))), .int (xs (ix (x4 + 3))), .int (xs (ix (x4 + 4))), .ref a3]) (st := []) hC (m_X0_told hC.fl e1077) q1742 q1743 q1744 q96 hy_X0_told ⟨Nat.le_of_ble_eq_true rfl, Nat.le_of_ble_eq_true rfl⟩ (Nat.le_of_ble_eq_true rfl) rfl dL_law_2532 ?_
  refine x_istore (lv' := [(0, .ref b), (1, .ref a1), (2, .ref a2), (3, .ref a3), (4, .int x4), (5, .int r1076.1)]) hC dL_law_2535 (by decide) [1, 2, 3, 4, 5, 0] rfl ?_
  refine x_aload_n hC dL_law_2537 2 rfl ?_
  refine x_aload_n hC dL_law_2538 0 rfl ?_
  refine x_iload hC dL_law_2539 4 rfl ?_
  refine x_iconst (v := 1) hC dL_law_2541 (by decide) ?_
  refine x_iadd hC dL_law_2542 ?_
  obtain ⟨g1078, hF⟩ := gd_e hF
  refine x_sld hC hX g1078 dL_law_2543 ?_
  refine x_aload_n hC dL_law_2544 0 rfl ?_
  refine x_iload hC dL_law_2545 4 rfl ?_
  refine x_iconst (v := 2) hC dL_law_2547 (by decide) ?_
  refine x_iadd hC dL_law_2548 ?_
  obtain ⟨g1079, hF⟩ := gd_e hF
  refine x_sld hC hX g1079 dL_law_2549 ?_
  refine x_aload_n hC dL_law_2550 0 rfl ?_
  refine x_iload hC dL_law_2551 4 rfl ?_
  refine x_iconst (v := 3) hC dL_law_2553 (by decide) ?_
  refine x_iadd hC dL_law_2554 ?_
  obtain ⟨g1080, hF⟩ := gd_e hF
  refine x_sld hC hX g1080 dL_law_2555 ?_
  refine x_aload_n hC dL_law_2556 0 rfl ?_
  refine x_iload hC dL_law_2557 4 rfl ?_
  refine x_iconst (v := 4) hC dL_law_2559 (by decide) ?_
  refine x_iadd hC dL_law_2560 ?_
  obtain ⟨g1081, hF⟩ := gd_e hF
  refine x_sld hC hX g1081 dL_law_2561 ?_
  obtain ⟨g1082, hF⟩ := gd_e hF
  obtain ⟨r1083, e1084, hF⟩ := bd_e hF
  refine xk_V (κ := 8) (As := [.int (xs (ix (x4 + 1))), .int (xs (ix (x4 + 2))), .int (xs (ix (x4 + 3))), .int (xs (ix (x4 + 4)))]) (st := []) hC (m_X8_told hC.fl e1084) g1082 rfl q2369 q2370 q2371 q2372 q107 hy_X8_told ⟨Nat.le_of_ble_eq_true rfl, Nat.le_of_ble_eq_true rfl⟩ (Nat.le_of_ble_eq_true rfl) rfl dL_law_2562 ?_
  refine x_istore (lv' := [(0, .ref b), (1, .ref a1), (2, .ref a2), (3, .ref a3), (4, .int x4), (5, .int r1076.1), (6, .int r1083.1)]) hC dL_law_2565 (by decide) [1, 2, 3, 4, 5, 6, 0] rfl ?_
  refine x_aload_n hC dL_law_2567 2 rfl ?_
  obtain ⟨g1085, hF⟩ := gd_e hF
  obtain ⟨r1086, e1087, hF⟩ := bd_e hF
  refine xk_V (κ := 8) (As := []) (st := []) hC (m_X8_thrown hC.fl e1087) g1085 rfl q1950 q1951 q1952 q1953 q107 hy_X8_thrown ⟨Nat.le_of_ble_eq_true rfl, Nat.le_of_ble_eq_true rfl⟩ (Nat.le_of_ble_eq_true rfl) rfl dL_law_2568 ?_
  refine x_iload hC dL_law_2571 5 rfl ?_
  refine x_icmp_eq (tgt := 2578) hC dL_law_2573 (by decide) (fun u1091 => ?_) (fun u1091 => ?_)
  · have hF := it_t u1091 hF
    refine x_iload hC dL_law_2578 5 rfl ?_
    refine x_if_ne (tgt := 2595) hC dL_law_2580 (by decide) (fun u1090 => ?_) (fun u1090 => ?_)
    · have hF := it_f u1090 hF
      refine X.sub (lv' := [(0, .ref b), (1, .ref a1), (2, .ref a2), (3, .ref a3), (4, .int x4)]) [0, 1, 2, 3, 4] rfl ?_
      exact w_L_law_2595 hC hX hk23 hF
    · have hF := it_t u1090 hF
      refine x_aload_n hC dL_law_2583 3 rfl ?_
      refine x_iconst (v := 0) hC dL_law_2584 (by decide) ?_
      obtain ⟨g1088, hF⟩ := gd_e hF
      refine x_lald hC g1088.1 g1088.2 dL_law_2585 ?_
      refine x_iload hC dL_law_2586 6 rfl ?_
      refine x_i2l hC dL_law_2588 ?_
      refine x_lcmp hC dL_law_2589 ?_
      refine x_if_eq (tgt := 2595) hC dL_law_2590 (by decide) (fun u1089 => ?_) (fun u1089 => ?_)
      · have hF := it_t u1089 hF
        refine X.sub (lv' := [(0, .ref b), (1, .ref a1), (2, .ref a2), (3, .ref a3), (4, .int x4)]) [0, 1, 2, 3, 4] rfl ?_
        exact w_L_law_2595 hC hX hk23 hF
      · have hF := it_f u1089 hF
        refine X.sub (lv' := []) [] rfl ?_
        exact w_L_law_2593 hC hX  hF
  · have hF := it_f u1091 hF
    refine X.sub (lv' := []) [] rfl ?_
    exact w_L_law_2576 hC hX  hF
theorem w_L_law_2651 {cx : zX} {h0 : AH} (hC : Cx cx RX0 cL_law 8 8192 104096 (some .boolean) h0) {b L : Nat} {xs : Nat → Int32} (hX : zScr cx.G b L xs) {h : AH} {r : (Int32 × AH)} {kh23 : AH → Nat → Nat → Nat → Int32 → Option (Int32 × AH)} (hk23 : ∀ (h : AH) (a1 : Nat) (a2 : Nat) (a3 : Nat) (x4 : Int32), kh23 h a1 a2 a3 x4 = some r → X cx 8 (zQ cx h0 (.inl (some (.int r.1))) r.2) h 23 [(0, .ref b), (1, .ref a1), (2, .ref a2), (3, .ref a3), (4, .int x4)] []) {a1 : Nat} {a2 : Nat} {a3 : Nat} {x4 : Int32} (hF : B_L_law_2651 h L xs kh23 a1 a2 a3 x4 = some r) : X cx 8 (zQ cx h0 (.inl (some (.int r.1))) r.2) h 2651 [(0, .ref b), (1, .ref a1), (2, .ref a2), (3, .ref a3), (4, .int x4)] [] := by
  refine x_goto (tgt := 2923) hC dL_law_2651 (by decide) ?_
  exact w_L_law_2923 hC hX hk23 hF
theorem w_L_law_2649 {cx : zX} {h0 : AH} (hC : Cx cx RX0 cL_law 8 8192 104096 (some .boolean) h0) {b L : Nat} {xs : Nat → Int32} (hX : zScr cx.G b L xs) {h : AH} {r : (Int32 × AH)}    (hF : B_L_law_2649 h L xs   = some r) : X cx 8 (zQ cx h0 (.inl (some (.int r.1))) r.2) h 2649 [] [] := by
  refine x_iconst (v := 0) hC dL_law_2649 (by decide) ?_
  have e := some_e hF
  subst e
  exact x_zret (ty := .boolean) hC (bl_n (Or.inl rfl)) dL_law_2650
theorem w_L_law_2632 {cx : zX} {h0 : AH} (hC : Cx cx RX0 cL_law 8 8192 104096 (some .boolean) h0) {b L : Nat} {xs : Nat → Int32} (hX : zScr cx.G b L xs) {h : AH} {r : (Int32 × AH)}    (hF : B_L_law_2632 h L xs   = some r) : X cx 8 (zQ cx h0 (.inl (some (.int r.1))) r.2) h 2632 [] [] := by
  refine x_iconst (v := 0) hC dL_law_2632 (by decide) ?_
  have e := some_e hF
  subst e
  exact x_zret (ty := .boolean) hC (bl_n (Or.inl rfl)) dL_law_2633
theorem w_L_law_2598 {cx : zX} {h0 : AH} (hC : Cx cx RX0 cL_law 8 8192 104096 (some .boolean) h0) {b L : Nat} {xs : Nat → Int32} (hX : zScr cx.G b L xs) {h : AH} {r : (Int32 × AH)} {kh23 : AH → Nat → Nat → Nat → Int32 → Option (Int32 × AH)} (hk23 : ∀ (h : AH) (a1 : Nat) (a2 : Nat) (a3 : Nat) (x4 : Int32), kh23 h a1 a2 a3 x4 = some r → X cx 8 (zQ cx h0 (.inl (some (.int r.1))) r.2) h 23 [(0, .ref b), (1, .ref a1), (2, .ref a2), (3, .ref a3), (4, .int x4)] []) {a1 : Nat} {a2 : Nat} {a3 : Nat} {x4 : Int32} (hF : B_L_law_2598 h L xs kh23 a1 a2 a3 x4 = some r) : X cx 8 (zQ cx h0 (.inl (some (.int r.1))) r.2) h 2598 [(0, .ref b), (1, .ref a1), (2, .ref a2), (3, .ref a3), (4, .int x4)] [] := by
  refine x_aload_n hC dL_law_2598 1 rfl ?_
  refine x_aload_n hC dL_law_2599 0 rfl ?_
  refine x_iload hC dL_law_2600 4 rfl ?_
  refine x_iconst (v := 1) hC dL_law_2602 (by decide) ?_
  refine x_iadd hC dL_law_2603 ?_
  obtain ⟨g1092, hF⟩ := gd_e hF
  refine x_sld hC hX g1092 dL_law_2604 ?_
  refine x_aload_n hC dL_law_2605 3 rfl ?_
  obtain ⟨r1093, e1094, hF⟩ := bd_e hF
  refine xk_SW (As := [.ref a1, .int (xs (ix (x4 + 1))), .ref a3]) (st := []) hC (m_X0_fit hC.fl e1094) q1749 q1750 q1751 q96 hy_X0_fit ⟨Nat.le_of_ble_eq_true rfl, Nat.le_of_ble_eq_true rfl⟩ (Nat.le_of_ble_eq_true rfl) rfl dL_law_2606 ?_
  refine x_istore (lv' := [(0, .ref b), (1, .ref a1), (2, .ref a2), (3, .ref a3), (4, .int x4), (5, .int r1093.1)]) hC dL_law_2609 (by decide) [1, 2, 3, 4, 5, 0] rfl ?_
  refine x_aload_n hC dL_law_2611 2 rfl ?_
  refine x_aload_n hC dL_law_2612 0 rfl ?_
  refine x_iload hC dL_law_2613 4 rfl ?_
  refine x_iconst (v := 1) hC dL_law_2615 (by decide) ?_
  refine x_iadd hC dL_law_2616 ?_
  obtain ⟨g1095, hF⟩ := gd_e hF
  refine x_sld hC hX g1095 dL_law_2617 ?_
  obtain ⟨g1096, hF⟩ := gd_e hF
  obtain ⟨r1097, e1098, hF⟩ := bd_e hF
  refine xk_V (κ := 8) (As := [.int (xs (ix (x4 + 1)))]) (st := []) hC (m_X8_fit hC.fl e1098) g1096 rfl q2373 q2374 q2375 q2376 q107 hy_X8_fit ⟨Nat.le_of_ble_eq_true rfl, Nat.le_of_ble_eq_true rfl⟩ (Nat.le_of_ble_eq_true rfl) rfl dL_law_2618 ?_
  refine x_istore (lv' := [(0, .ref b), (1, .ref a1), (2, .ref a2), (3, .ref a3), (4, .int x4), (5, .int r1093.1), (6, .int r1097.1)]) hC dL_law_2621 (by decide) [1, 2, 3, 4, 5, 6, 0] rfl ?_
  refine x_aload_n hC dL_law_2623 2 rfl ?_
  obtain ⟨g1099, hF⟩ := gd_e hF
  obtain ⟨r1100, e1101, hF⟩ := bd_e hF
  refine xk_V (κ := 8) (As := []) (st := []) hC (m_X8_thrown hC.fl e1101) g1099 rfl q1950 q1951 q1952 q1953 q107 hy_X8_thrown ⟨Nat.le_of_ble_eq_true rfl, Nat.le_of_ble_eq_true rfl⟩ (Nat.le_of_ble_eq_true rfl) rfl dL_law_2624 ?_
  refine x_iload hC dL_law_2627 5 rfl ?_
  refine x_icmp_eq (tgt := 2634) hC dL_law_2629 (by decide) (fun u1105 => ?_) (fun u1105 => ?_)
  · have hF := it_t u1105 hF
    refine x_iload hC dL_law_2634 5 rfl ?_
    refine x_if_ne (tgt := 2651) hC dL_law_2636 (by decide) (fun u1104 => ?_) (fun u1104 => ?_)
    · have hF := it_f u1104 hF
      refine X.sub (lv' := [(0, .ref b), (1, .ref a1), (2, .ref a2), (3, .ref a3), (4, .int x4)]) [0, 1, 2, 3, 4] rfl ?_
      exact w_L_law_2651 hC hX hk23 hF
    · have hF := it_t u1104 hF
      refine x_aload_n hC dL_law_2639 3 rfl ?_
      refine x_iconst (v := 0) hC dL_law_2640 (by decide) ?_
      obtain ⟨g1102, hF⟩ := gd_e hF
      refine x_lald hC g1102.1 g1102.2 dL_law_2641 ?_
      refine x_iload hC dL_law_2642 6 rfl ?_
      refine x_i2l hC dL_law_2644 ?_
      refine x_lcmp hC dL_law_2645 ?_
      refine x_if_eq (tgt := 2651) hC dL_law_2646 (by decide) (fun u1103 => ?_) (fun u1103 => ?_)
      · have hF := it_t u1103 hF
        refine X.sub (lv' := [(0, .ref b), (1, .ref a1), (2, .ref a2), (3, .ref a3), (4, .int x4)]) [0, 1, 2, 3, 4] rfl ?_
        exact w_L_law_2651 hC hX hk23 hF
      · have hF := it_f u1103 hF
        refine X.sub (lv' := []) [] rfl ?_
        exact w_L_law_2649 hC hX  hF
  · have hF := it_f u1105 hF
    refine X.sub (lv' := []) [] rfl ?_
    exact w_L_law_2632 hC hX  hF
theorem w_L_law_2709 {cx : zX} {h0 : AH} (hC : Cx cx RX0 cL_law 8 8192 104096 (some .boolean) h0) {b L : Nat} {xs : Nat → Int32} (hX : zScr cx.G b L xs) {h : AH} {r : (Int32 × AH)}    (hF : B_L_law_2709 h L xs   = some r) : X cx 8 (zQ cx h0 (.inl (some (.int r.1))) r.2) h 2709 [] [] := by
  refine x_iconst (v := 0) hC dL_law_2709 (by decide) ?_
  have e := some_e hF
  subst e
  exact x_zret (ty := .boolean) hC (bl_n (Or.inl rfl)) dL_law_2710
theorem w_L_law_2654 {cx : zX} {h0 : AH} (hC : Cx cx RX0 cL_law 8 8192 104096 (some .boolean) h0) {b L : Nat} {xs : Nat → Int32} (hX : zScr cx.G b L xs) {h : AH} {r : (Int32 × AH)} {kh23 : AH → Nat → Nat → Nat → Int32 → Option (Int32 × AH)} (hk23 : ∀ (h : AH) (a1 : Nat) (a2 : Nat) (a3 : Nat) (x4 : Int32), kh23 h a1 a2 a3 x4 = some r → X cx 8 (zQ cx h0 (.inl (some (.int r.1))) r.2) h 23 [(0, .ref b), (1, .ref a1), (2, .ref a2), (3, .ref a3), (4, .int x4)] []) {a1 : Nat} {a2 : Nat} {a3 : Nat} {x4 : Int32} (hF : B_L_law_2654 h L xs kh23 a1 a2 a3 x4 = some r) : X cx 8 (zQ cx h0 (.inl (some (.int r.1))) r.2) h 2654 [(0, .ref b), (1, .ref a1), (2, .ref a2), (3, .ref a3), (4, .int x4)] [] := by
  refine x_aload_n hC dL_law_2654 1 rfl ?_
  refine x_aload_n hC dL_law_2655 0 rfl ?_
  refine x_iload hC dL_law_2656 4 rfl ?_
  refine x_iconst (v := 1) hC dL_law_2658 (by decide) ?_
  refine x_iadd hC dL_law_2659 ?_
  obtain ⟨g1106, hF⟩ := gd_e hF
  refine x_sld hC hX g1106 dL_law_2660 ?_
  refine x_aload_n hC dL_law_2661 0 rfl ?_
  refine x_iload hC dL_law_2662 4 rfl ?_
  refine x_iconst (v := 2) hC dL_law_2664 (by decide) ?_
  refine x_iadd hC dL_law_2665 ?_
  obtain ⟨g1107, hF⟩ := gd_e hF
  refine x_sld hC hX g1107 dL_law_2666 ?_
  refine x_aload_n hC dL_law_2667 0 rfl ?_
  refine x_iload hC dL_law_2668 4 rfl ?_
  refine x_iconst (v := 3) hC dL_law_2670 (by decide) ?_
  refine x_iadd hC dL_law_2671 ?_
  obtain ⟨g1108, hF⟩ := gd_e hF
  refine x_sld hC hX g1108 dL_law_2672 ?_
  obtain ⟨r1109, e1110, hF⟩ := bd_e hF
  refine xk_SW (As := [.ref a1, .int (xs (ix (x4 + 1))), .int (xs (ix (x4 + 2))), .int (xs (ix (x4 + 3)))]) (st := []) hC (m_X0_tray hC.fl e1110) q1756 q1757 q1758 q96 hy_X0_tray ⟨Nat.le_of_ble_eq_true rfl, Nat.le_of_ble_eq_true rfl⟩ (Nat.le_of_ble_eq_true rfl) rfl dL_law_2673 ?_
  refine x_istore (lv' := [(0, .ref b), (1, .ref a1), (2, .ref a2), (3, .ref a3), (4, .int x4), (5, .int r1109.1)]) hC dL_law_2676 (by decide) [1, 2, 3, 4, 5, 0] rfl ?_
  refine x_aload_n hC dL_law_2678 2 rfl ?_
  refine x_aload_n hC dL_law_2679 0 rfl ?_
  refine x_iload hC dL_law_2680 4 rfl ?_
  refine x_iconst (v := 1) hC dL_law_2682 (by decide) ?_
  refine x_iadd hC dL_law_2683 ?_
  obtain ⟨g1111, hF⟩ := gd_e hF
  refine x_sld hC hX g1111 dL_law_2684 ?_
  refine x_aload_n hC dL_law_2685 0 rfl ?_
  refine x_iload hC dL_law_2686 4 rfl ?_
  refine x_iconst (v := 2) hC dL_law_2688 (by decide) ?_
  refine x_iadd hC dL_law_2689 ?_
  obtain ⟨g1112, hF⟩ := gd_e hF
  refine x_sld hC hX g1112 dL_law_2690 ?_
  refine x_aload_n hC dL_law_2691 0 rfl ?_
  refine x_iload hC dL_law_2692 4 rfl ?_
  refine x_iconst (v := 3) hC dL_law_2694 (by decide) ?_
  refine x_iadd hC dL_law_2695 ?_
  obtain ⟨g1113, hF⟩ := gd_e hF
  refine x_sld hC hX g1113 dL_law_2696 ?_
  obtain ⟨g1114, hF⟩ := gd_e hF
  obtain ⟨r1115, e1116, hF⟩ := bd_e hF
  refine xk_V (κ := 8) (As := [.int (xs (ix (x4 + 1))), .int (xs (ix (x4 + 2))), .int (xs (ix (x4 + 3)))]) (st := []) hC (m_X8_tray hC.fl e1116) g1114 rfl q2377 q2378 q2379 q2380 q107 hy_X8_tray ⟨Nat.le_of_ble_eq_true rfl, Nat.le_of_ble_eq_true rfl⟩ (Nat.le_of_ble_eq_true rfl) rfl dL_law_2697 ?_
  refine x_aload_n hC dL_law_2700 2 rfl ?_
  obtain ⟨g1117, hF⟩ := gd_e hF
  obtain ⟨r1118, e1119, hF⟩ := bd_e hF
  refine xk_V (κ := 8) (As := []) (st := []) hC (m_X8_thrown hC.fl e1119) g1117 rfl q1950 q1951 q1952 q1953 q107 hy_X8_thrown ⟨Nat.le_of_ble_eq_true rfl, Nat.le_of_ble_eq_true rfl⟩ (Nat.le_of_ble_eq_true rfl) rfl dL_law_2701 ?_
  refine x_iload hC dL_law_2704 5 rfl ?_
  refine x_icmp_eq (tgt := 2711) hC dL_law_2706 (by decide) (fun u1120 => ?_) (fun u1120 => ?_)
  · have hF := it_t u1120 hF
    refine x_goto (tgt := 2923) hC dL_law_2711 (by decide) ?_
    refine X.sub (lv' := [(0, .ref b), (1, .ref a1), (2, .ref a2), (3, .ref a3), (4, .int x4)]) [0, 1, 2, 3, 4] rfl ?_
    exact w_L_law_2923 hC hX hk23 hF
  · have hF := it_f u1120 hF
    refine X.sub (lv' := []) [] rfl ?_
    exact w_L_law_2709 hC hX  hF
theorem w_L_law_2822 {cx : zX} {h0 : AH} (hC : Cx cx RX0 cL_law 8 8192 104096 (some .boolean) h0) {b L : Nat} {xs : Nat → Int32} (hX : zScr cx.G b L xs) {h : AH} {r : (Int32 × AH)} {kh23 : AH → Nat → Nat → Nat → Int32 → Option (Int32 × AH)} (hk23 : ∀ (h : AH) (a1 : Nat) (a2 : Nat) (a3 : Nat) (x4 : Int32), kh23 h a1 a2 a3 x4 = some r → X cx 8 (zQ cx h0 (.inl (some (.int r.1))) r.2) h 23 [(0, .ref b), (1, .ref a1), (2, .ref a2), (3, .ref a3), (4, .int x4)] []) {a1 : Nat} {a2 : Nat} {a3 : Nat} {x4 : Int32} (hF : B_L_law_2822 h L xs kh23 a1 a2 a3 x4 = some r) : X cx 8 (zQ cx h0 (.inl (some (.int r.1))) r.2) h 2822 [(0, .ref b), (1, .ref a1), (2, .ref a2), (3, .ref a3), (4, .int x4)] [] := by
  refine x_goto (tgt := 2923) hC dL_law_2822 (by decide) ?_
  exact w_L_law_2923 hC hX hk23 hF
theorem w_L_law_2820 {cx : zX} {h0 : AH} (hC : Cx cx RX0 cL_law 8 8192 104096 (some .boolean) h0) {b L : Nat} {xs : Nat → Int32} (hX : zScr cx.G b L xs) {h : AH} {r : (Int32 × AH)}    (hF : B_L_law_2820 h L xs   = some r) : X cx 8 (zQ cx h0 (.inl (some (.int r.1))) r.2) h 2820 [] [] := by
  refine x_iconst (v := 0) hC dL_law_2820 (by decide) ?_
  have e := some_e hF
  subst e
  exact x_zret (ty := .boolean) hC (bl_n (Or.inl rfl)) dL_law_2821
theorem w_L_law_2804 {cx : zX} {h0 : AH} (hC : Cx cx RX0 cL_law 8 8192 104096 (some .boolean) h0) {b L : Nat} {xs : Nat → Int32} (hX : zScr cx.G b L xs) {h : AH} {r : (Int32 × AH)}    (hF : B_L_law_2804 h L xs   = some r) : X cx 8 (zQ cx h0 (.inl (some (.int r.1))) r.2) h 2804 [] [] := by
  refine x_iconst (v := 0) hC dL_law_2804 (by decide) ?_
  have e := some_e hF
  subst e
  exact x_zret (ty := .boolean) hC (bl_n (Or.inl rfl)) dL_law_2805
theorem w_L_law_2714 {cx : zX} {h0 : AH} (hC : Cx cx RX0 cL_law 8 8192 104096 (some .boolean) h0) {b L : Nat} {xs : Nat → Int32} (hX : zScr cx.G b L xs) {h : AH} {r : (Int32 × AH)} {kh23 : AH → Nat → Nat → Nat → Int32 → Option (Int32 × AH)} (hk23 : ∀ (h : AH) (a1 : Nat) (a2 : Nat) (a3 : Nat) (x4 : Int32), kh23 h a1 a2 a3 x4 = some r → X cx 8 (zQ cx h0 (.inl (some (.int r.1))) r.2) h 23 [(0, .ref b), (1, .ref a1), (2, .ref a2), (3, .ref a3), (4, .int x4)] []) {a1 : Nat} {a2 : Nat} {a3 : Nat} {x4 : Int32} (hF : B_L_law_2714 h L xs kh23 a1 a2 a3 x4 = some r) : X cx 8 (zQ cx h0 (.inl (some (.int r.1))) r.2) h 2714 [(0, .ref b), (1, .ref a1), (2, .ref a2), (3, .ref a3), (4, .int x4)] [] := by
  refine x_aload_n hC dL_law_2714 1 rfl ?_
  refine x_aload_n hC dL_law_2715 0 rfl ?_
  refine x_iload hC dL_law_2716 4 rfl ?_
  refine x_iconst (v := 1) hC dL_law_2718 (by decide) ?_
  refine x_iadd hC dL_law_2719 ?_
  obtain ⟨g1121, hF⟩ := gd_e hF
  refine x_sld hC hX g1121 dL_law_2720 ?_
  refine x_aload_n hC dL_law_2721 0 rfl ?_
  refine x_iload hC dL_law_2722 4 rfl ?_
  refine x_iconst (v := 2) hC dL_law_2724 (by decide) ?_
  refine x_iadd hC dL_law_2725 ?_
  obtain ⟨g1122, hF⟩ := gd_e hF
  refine x_sld hC hX g1122 dL_law_2726 ?_
  refine x_aload_n hC dL_law_2727 0 rfl ?_
  refine x_iload hC dL_law_2728 4 rfl ?_
  refine x_iconst (v := 3) hC dL_law_2730 (by decide) ?_
  refine x_iadd hC dL_law_2731 ?_
  obtain ⟨g1123, hF⟩ := gd_e hF
  refine x_sld hC hX g1123 dL_law_2732 ?_
  refine x_i2l hC dL_law_2733 ?_
  refine x_bipush (v := 32) hC dL_law_2734 (by decide) ?_
  refine x_lshl hC dL_law_2736 ?_
  refine x_aload_n hC dL_law_2737 0 rfl ?_
  refine x_iload hC dL_law_2738 4 rfl ?_
  refine x_iconst (v := 4) hC dL_law_2740 (by decide) ?_
  refine x_iadd hC dL_law_2741 ?_
  obtain ⟨g1124, hF⟩ := gd_e hF
  refine x_sld hC hX g1124 dL_law_2742 ?_
  refine x_i2l hC dL_law_2743 ?_
  refine x_ldc2 (v := 4294967295) hC q2399 dL_law_2744 ?_
  refine x_land hC dL_law_2747 ?_
  refine x_lor hC dL_law_2748 ?_
  refine x_aload_n hC dL_law_2749 3 rfl ?_
  obtain ⟨r1125, e1126, hF⟩ := bd_e hF
  refine xk_SW (As := [.ref a1, .int (xs (ix (x4 + 1))), .int (xs (ix (x4 + 2))), .long ((lshl (Int32.toInt64 (xs (ix (x4 + 3)))) 32) ||| ((Int32.toInt64 (xs (ix (x4 + 4)))) &&& 4294967295)), .ref a3]) (st := []) hC (m_X0_write hC.fl e1126) q1782 q1783 q1784 q96 hy_X0_write ⟨Nat.le_of_ble_eq_true rfl, Nat.le_of_ble_eq_true rfl⟩ (Nat.le_of_ble_eq_true rfl) rfl dL_law_2750 ?_
  refine x_istore (lv' := [(0, .ref b), (1, .ref a1), (2, .ref a2), (3, .ref a3), (4, .int x4), (5, .int r1125.1)]) hC dL_law_2753 (by decide) [1, 2, 3, 4, 5, 0] rfl ?_
  refine x_aload_n hC dL_law_2755 2 rfl ?_
  refine x_aload_n hC dL_law_2756 0 rfl ?_
  refine x_iload hC dL_law_2757 4 rfl ?_
  refine x_iconst (v := 1) hC dL_law_2759 (by decide) ?_
  refine x_iadd hC dL_law_2760 ?_
  obtain ⟨g1127, hF⟩ := gd_e hF
  refine x_sld hC hX g1127 dL_law_2761 ?_
  refine x_aload_n hC dL_law_2762 0 rfl ?_
  refine x_iload hC dL_law_2763 4 rfl ?_
  refine x_iconst (v := 2) hC dL_law_2765 (by decide) ?_
  refine x_iadd hC dL_law_2766 ?_
  obtain ⟨g1128, hF⟩ := gd_e hF
  refine x_sld hC hX g1128 dL_law_2767 ?_
  refine x_aload_n hC dL_law_2768 0 rfl ?_
  refine x_iload hC dL_law_2769 4 rfl ?_
  refine x_iconst (v := 3) hC dL_law_2771 (by decide) ?_
  refine x_iadd hC dL_law_2772 ?_
  obtain ⟨g1129, hF⟩ := gd_e hF
  refine x_sld hC hX g1129 dL_law_2773 ?_
  refine x_i2l hC dL_law_2774 ?_
  refine x_bipush (v := 32) hC dL_law_2775 (by decide) ?_
  refine x_lshl hC dL_law_2777 ?_
  refine x_aload_n hC dL_law_2778 0 rfl ?_
  refine x_iload hC dL_law_2779 4 rfl ?_
  refine x_iconst (v := 4) hC dL_law_2781 (by decide) ?_
  refine x_iadd hC dL_law_2782 ?_
  obtain ⟨g1130, hF⟩ := gd_e hF
  refine x_sld hC hX g1130 dL_law_2783 ?_
  refine x_i2l hC dL_law_2784 ?_
  refine x_ldc2 (v := 4294967295) hC q2399 dL_law_2785 ?_
  refine x_land hC dL_law_2788 ?_
  refine x_lor hC dL_law_2789 ?_
  obtain ⟨g1131, hF⟩ := gd_e hF
  obtain ⟨r1132, e1133, hF⟩ := bd_e hF
  refine xk_V (κ := 8) (As := [.int (xs (ix (x4 + 1))), .int (xs (ix (x4 + 2))), .long ((lshl (Int32.toInt64 (xs (ix (x4 + 3)))) 32) ||| ((Int32.toInt64 (xs (ix (x4 + 4)))) &&& 4294967295))]) (st := []) hC (m_X8_write hC.fl e1133) g1131 rfl q2382 q2383 q2384 q2385 q107 hy_X8_write ⟨Nat.le_of_ble_eq_true rfl, Nat.le_of_ble_eq_true rfl⟩ (Nat.le_of_ble_eq_true rfl) rfl dL_law_2790 ?_
  refine x_lstore (lv' := [(0, .ref b), (1, .ref a1), (2, .ref a2), (3, .ref a3), (4, .int x4), (5, .int r1125.1), (6, .long r1132.1)]) hC dL_law_2793 (by decide) [1, 2, 3, 4, 5, 6, 0] rfl ?_
  refine x_aload_n hC dL_law_2795 2 rfl ?_
  obtain ⟨g1134, hF⟩ := gd_e hF
  obtain ⟨r1135, e1136, hF⟩ := bd_e hF
  refine xk_V (κ := 8) (As := []) (st := []) hC (m_X8_thrown hC.fl e1136) g1134 rfl q1950 q1951 q1952 q1953 q107 hy_X8_thrown ⟨Nat.le_of_ble_eq_true rfl, Nat.le_of_ble_eq_true rfl⟩ (Nat.le_of_ble_eq_true rfl) rfl dL_law_2796 ?_
  refine x_iload hC dL_law_2799 5 rfl ?_
  refine x_icmp_eq (tgt := 2806) hC dL_law_2801 (by decide) (fun u1140 => ?_) (fun u1140 => ?_)
  · have hF := it_t u1140 hF
    refine x_iload hC dL_law_2806 5 rfl ?_
    refine x_if_ne (tgt := 2822) hC dL_law_2808 (by decide) (fun u1139 => ?_) (fun u1139 => ?_)
    · have hF := it_f u1139 hF
      refine X.sub (lv' := [(0, .ref b), (1, .ref a1), (2, .ref a2), (3, .ref a3), (4, .int x4)]) [0, 1, 2, 3, 4] rfl ?_
      exact w_L_law_2822 hC hX hk23 hF
    · have hF := it_t u1139 hF
      refine x_aload_n hC dL_law_2811 3 rfl ?_
      refine x_iconst (v := 0) hC dL_law_2812 (by decide) ?_
      obtain ⟨g1137, hF⟩ := gd_e hF
      refine x_lald hC g1137.1 g1137.2 dL_law_2813 ?_
      refine x_lload hC dL_law_2814 6 rfl ?_
      refine x_lcmp hC dL_law_2816 ?_
      refine x_if_eq (tgt := 2822) hC dL_law_2817 (by decide) (fun u1138 => ?_) (fun u1138 => ?_)
      · have hF := it_t u1138 hF
        refine X.sub (lv' := [(0, .ref b), (1, .ref a1), (2, .ref a2), (3, .ref a3), (4, .int x4)]) [0, 1, 2, 3, 4] rfl ?_
        exact w_L_law_2822 hC hX hk23 hF
      · have hF := it_f u1138 hF
        refine X.sub (lv' := []) [] rfl ?_
        exact w_L_law_2820 hC hX  hF
  · have hF := it_f u1140 hF
    refine X.sub (lv' := []) [] rfl ?_
    exact w_L_law_2804 hC hX  hF
theorem w_L_law_2856 {cx : zX} {h0 : AH} (hC : Cx cx RX0 cL_law 8 8192 104096 (some .boolean) h0) {b L : Nat} {xs : Nat → Int32} (hX : zScr cx.G b L xs) {h : AH} {r : (Int32 × AH)}    (hF : B_L_law_2856 h L xs   = some r) : X cx 8 (zQ cx h0 (.inl (some (.int r.1))) r.2) h 2856 [] [] := by
  refine x_iconst (v := 0) hC dL_law_2856 (by decide) ?_
  have e := some_e hF
  subst e
  exact x_zret (ty := .boolean) hC (bl_n (Or.inl rfl)) dL_law_2857
theorem w_L_law_2825 {cx : zX} {h0 : AH} (hC : Cx cx RX0 cL_law 8 8192 104096 (some .boolean) h0) {b L : Nat} {xs : Nat → Int32} (hX : zScr cx.G b L xs) {h : AH} {r : (Int32 × AH)} {kh23 : AH → Nat → Nat → Nat → Int32 → Option (Int32 × AH)} (hk23 : ∀ (h : AH) (a1 : Nat) (a2 : Nat) (a3 : Nat) (x4 : Int32), kh23 h a1 a2 a3 x4 = some r → X cx 8 (zQ cx h0 (.inl (some (.int r.1))) r.2) h 23 [(0, .ref b), (1, .ref a1), (2, .ref a2), (3, .ref a3), (4, .int x4)] []) {a1 : Nat} {a2 : Nat} {a3 : Nat} {x4 : Int32} (hF : B_L_law_2825 h L xs kh23 a1 a2 a3 x4 = some r) : X cx 8 (zQ cx h0 (.inl (some (.int r.1))) r.2) h 2825 [(0, .ref b), (1, .ref a1), (2, .ref a2), (3, .ref a3), (4, .int x4)] [] := by
  refine x_aload_n hC dL_law_2825 1 rfl ?_
  refine x_aload_n hC dL_law_2826 0 rfl ?_
  refine x_iload hC dL_law_2827 4 rfl ?_
  refine x_iconst (v := 1) hC dL_law_2829 (by decide) ?_
  refine x_iadd hC dL_law_2830 ?_
  obtain ⟨g1141, hF⟩ := gd_e hF
  refine x_sld hC hX g1141 dL_law_2831 ?_
  obtain ⟨r1142, e1143, hF⟩ := bd_e hF
  refine xk_SW (As := [.ref a1, .int (xs (ix (x4 + 1)))]) (st := []) hC (m_X0_image hC.fl e1143) q1794 q1795 q1796 q96 hy_X0_image ⟨Nat.le_of_ble_eq_true rfl, Nat.le_of_ble_eq_true rfl⟩ (Nat.le_of_ble_eq_true rfl) rfl dL_law_2832 ?_
  refine x_istore (lv' := [(0, .ref b), (1, .ref a1), (2, .ref a2), (3, .ref a3), (4, .int x4), (5, .int r1142.1)]) hC dL_law_2835 (by decide) [1, 2, 3, 4, 5, 0] rfl ?_
  refine x_aload_n hC dL_law_2837 2 rfl ?_
  refine x_aload_n hC dL_law_2838 0 rfl ?_
  refine x_iload hC dL_law_2839 4 rfl ?_
  refine x_iconst (v := 1) hC dL_law_2841 (by decide) ?_
  refine x_iadd hC dL_law_2842 ?_
  obtain ⟨g1144, hF⟩ := gd_e hF
  refine x_sld hC hX g1144 dL_law_2843 ?_
  obtain ⟨g1145, hF⟩ := gd_e hF
  obtain ⟨r1146, e1147, hF⟩ := bd_e hF
  refine xk_V (κ := 8) (As := [.int (xs (ix (x4 + 1)))]) (st := []) hC (m_X8_image hC.fl e1147) g1145 rfl q2386 q2387 q2388 q2389 q107 hy_X8_image ⟨Nat.le_of_ble_eq_true rfl, Nat.le_of_ble_eq_true rfl⟩ (Nat.le_of_ble_eq_true rfl) rfl dL_law_2844 ?_
  refine x_aload_n hC dL_law_2847 2 rfl ?_
  obtain ⟨g1148, hF⟩ := gd_e hF
  obtain ⟨r1149, e1150, hF⟩ := bd_e hF
  refine xk_V (κ := 8) (As := []) (st := []) hC (m_X8_thrown hC.fl e1150) g1148 rfl q1950 q1951 q1952 q1953 q107 hy_X8_thrown ⟨Nat.le_of_ble_eq_true rfl, Nat.le_of_ble_eq_true rfl⟩ (Nat.le_of_ble_eq_true rfl) rfl dL_law_2848 ?_
  refine x_iload hC dL_law_2851 5 rfl ?_
  refine x_icmp_eq (tgt := 2858) hC dL_law_2853 (by decide) (fun u1151 => ?_) (fun u1151 => ?_)
  · have hF := it_t u1151 hF
    refine x_goto (tgt := 2923) hC dL_law_2858 (by decide) ?_
    refine X.sub (lv' := [(0, .ref b), (1, .ref a1), (2, .ref a2), (3, .ref a3), (4, .int x4)]) [0, 1, 2, 3, 4] rfl ?_
    exact w_L_law_2923 hC hX hk23 hF
  · have hF := it_f u1151 hF
    refine X.sub (lv' := []) [] rfl ?_
    exact w_L_law_2856 hC hX  hF
theorem w_L_law_2892 {cx : zX} {h0 : AH} (hC : Cx cx RX0 cL_law 8 8192 104096 (some .boolean) h0) {b L : Nat} {xs : Nat → Int32} (hX : zScr cx.G b L xs) {h : AH} {r : (Int32 × AH)}    (hF : B_L_law_2892 h L xs   = some r) : X cx 8 (zQ cx h0 (.inl (some (.int r.1))) r.2) h 2892 [] [] := by
  refine x_iconst (v := 0) hC dL_law_2892 (by decide) ?_
  have e := some_e hF
  subst e
  exact x_zret (ty := .boolean) hC (bl_n (Or.inl rfl)) dL_law_2893
theorem w_L_law_2861 {cx : zX} {h0 : AH} (hC : Cx cx RX0 cL_law 8 8192 104096 (some .boolean) h0) {b L : Nat} {xs : Nat → Int32} (hX : zScr cx.G b L xs) {h : AH} {r : (Int32 × AH)} {kh23 : AH → Nat → Nat → Nat → Int32 → Option (Int32 × AH)} (hk23 : ∀ (h : AH) (a1 : Nat) (a2 : Nat) (a3 : Nat) (x4 : Int32), kh23 h a1 a2 a3 x4 = some r → X cx 8 (zQ cx h0 (.inl (some (.int r.1))) r.2) h 23 [(0, .ref b), (1, .ref a1), (2, .ref a2), (3, .ref a3), (4, .int x4)] []) {a1 : Nat} {a2 : Nat} {a3 : Nat} {x4 : Int32} (hF : B_L_law_2861 h L xs kh23 a1 a2 a3 x4 = some r) : X cx 8 (zQ cx h0 (.inl (some (.int r.1))) r.2) h 2861 [(0, .ref b), (1, .ref a1), (2, .ref a2), (3, .ref a3), (4, .int x4)] [] := by
  refine x_aload_n hC dL_law_2861 1 rfl ?_
  refine x_aload_n hC dL_law_2862 0 rfl ?_
  refine x_iload hC dL_law_2863 4 rfl ?_
  refine x_iconst (v := 1) hC dL_law_2865 (by decide) ?_
  refine x_iadd hC dL_law_2866 ?_
  obtain ⟨g1152, hF⟩ := gd_e hF
  refine x_sld hC hX g1152 dL_law_2867 ?_
  obtain ⟨r1153, e1154, hF⟩ := bd_e hF
  refine xk_SW (As := [.ref a1, .int (xs (ix (x4 + 1)))]) (st := []) hC (m_X0_restore hC.fl e1154) q1815 q1816 q1817 q96 hy_X0_restore ⟨Nat.le_of_ble_eq_true rfl, Nat.le_of_ble_eq_true rfl⟩ (Nat.le_of_ble_eq_true rfl) rfl dL_law_2868 ?_
  refine x_istore (lv' := [(0, .ref b), (1, .ref a1), (2, .ref a2), (3, .ref a3), (4, .int x4), (5, .int r1153.1)]) hC dL_law_2871 (by decide) [1, 2, 3, 4, 5, 0] rfl ?_
  refine x_aload_n hC dL_law_2873 2 rfl ?_
  refine x_aload_n hC dL_law_2874 0 rfl ?_
  refine x_iload hC dL_law_2875 4 rfl ?_
  refine x_iconst (v := 1) hC dL_law_2877 (by decide) ?_
  refine x_iadd hC dL_law_2878 ?_
  obtain ⟨g1155, hF⟩ := gd_e hF
  refine x_sld hC hX g1155 dL_law_2879 ?_
  obtain ⟨g1156, hF⟩ := gd_e hF
  obtain ⟨r1157, e1158, hF⟩ := bd_e hF
  refine xk_V (κ := 8) (As := [.int (xs (ix (x4 + 1)))]) (st := []) hC (m_X8_restore hC.fl e1158) g1156 rfl q2390 q2391 q2392 q2393 q107 hy_X8_restore ⟨Nat.le_of_ble_eq_true rfl, Nat.le_of_ble_eq_true rfl⟩ (Nat.le_of_ble_eq_true rfl) rfl dL_law_2880 ?_
  refine x_aload_n hC dL_law_2883 2 rfl ?_
  obtain ⟨g1159, hF⟩ := gd_e hF
  obtain ⟨r1160, e1161, hF⟩ := bd_e hF
  refine xk_V (κ := 8) (As := []) (st := []) hC (m_X8_thrown hC.fl e1161) g1159 rfl q1950 q1951 q1952 q1953 q107 hy_X8_thrown ⟨Nat.le_of_ble_eq_true rfl, Nat.le_of_ble_eq_true rfl⟩ (Nat.le_of_ble_eq_true rfl) rfl dL_law_2884 ?_
  refine x_iload hC dL_law_2887 5 rfl ?_
  refine x_icmp_eq (tgt := 2894) hC dL_law_2889 (by decide) (fun u1162 => ?_) (fun u1162 => ?_)
  · have hF := it_t u1162 hF
    refine x_goto (tgt := 2923) hC dL_law_2894 (by decide) ?_
    refine X.sub (lv' := [(0, .ref b), (1, .ref a1), (2, .ref a2), (3, .ref a3), (4, .int x4)]) [0, 1, 2, 3, 4] rfl ?_
    exact w_L_law_2923 hC hX hk23 hF
  · have hF := it_f u1162 hF
    refine X.sub (lv' := []) [] rfl ?_
    exact w_L_law_2892 hC hX  hF
theorem w_L_law_2921 {cx : zX} {h0 : AH} (hC : Cx cx RX0 cL_law 8 8192 104096 (some .boolean) h0) {b L : Nat} {xs : Nat → Int32} (hX : zScr cx.G b L xs) {h : AH} {r : (Int32 × AH)}    (hF : B_L_law_2921 h L xs   = some r) : X cx 8 (zQ cx h0 (.inl (some (.int r.1))) r.2) h 2921 [] [] := by
  refine x_iconst (v := 0) hC dL_law_2921 (by decide) ?_
  have e := some_e hF
  subst e
  exact x_zret (ty := .boolean) hC (bl_n (Or.inl rfl)) dL_law_2922
theorem w_L_law_2897 {cx : zX} {h0 : AH} (hC : Cx cx RX0 cL_law 8 8192 104096 (some .boolean) h0) {b L : Nat} {xs : Nat → Int32} (hX : zScr cx.G b L xs) {h : AH} {r : (Int32 × AH)} {kh23 : AH → Nat → Nat → Nat → Int32 → Option (Int32 × AH)} (hk23 : ∀ (h : AH) (a1 : Nat) (a2 : Nat) (a3 : Nat) (x4 : Int32), kh23 h a1 a2 a3 x4 = some r → X cx 8 (zQ cx h0 (.inl (some (.int r.1))) r.2) h 23 [(0, .ref b), (1, .ref a1), (2, .ref a2), (3, .ref a3), (4, .int x4)] []) {a1 : Nat} {a2 : Nat} {a3 : Nat} {x4 : Int32} (hF : B_L_law_2897 h L xs kh23 a1 a2 a3 x4 = some r) : X cx 8 (zQ cx h0 (.inl (some (.int r.1))) r.2) h 2897 [(0, .ref b), (1, .ref a1), (2, .ref a2), (3, .ref a3), (4, .int x4)] [] := by
  refine x_aload_n hC dL_law_2897 1 rfl ?_
  refine x_aload_n hC dL_law_2898 0 rfl ?_
  refine x_iload hC dL_law_2899 4 rfl ?_
  refine x_iconst (v := 1) hC dL_law_2901 (by decide) ?_
  refine x_iadd hC dL_law_2902 ?_
  obtain ⟨g1163, hF⟩ := gd_e hF
  refine x_sld hC hX g1163 dL_law_2903 ?_
  obtain ⟨g1164, hF⟩ := gd_e hF
  obtain ⟨r1165, e1166, hF⟩ := bd_e hF
  refine xk_V (κ := 1) (As := [.int (xs (ix (x4 + 1)))]) (st := []) hC (m_X1_count hC.fl e1166) g1164 rfl q474 q475 q476 q477 q97 hy_X1_count ⟨Nat.le_of_ble_eq_true rfl, Nat.le_of_ble_eq_true rfl⟩ (Nat.le_of_ble_eq_true rfl) rfl dL_law_2904 ?_
  refine x_aload_n hC dL_law_2907 2 rfl ?_
  refine x_aload_n hC dL_law_2908 0 rfl ?_
  refine x_iload hC dL_law_2909 4 rfl ?_
  refine x_iconst (v := 1) hC dL_law_2911 (by decide) ?_
  refine x_iadd hC dL_law_2912 ?_
  obtain ⟨g1167, hF⟩ := gd_e hF
  refine x_sld hC hX g1167 dL_law_2913 ?_
  obtain ⟨g1168, hF⟩ := gd_e hF
  obtain ⟨r1169, e1170, hF⟩ := bd_e hF
  refine xk_V (κ := 8) (As := [.int (xs (ix (x4 + 1)))]) (st := [.long r1165]) hC (m_X8_count hC.fl e1170) g1168 rfl q2394 q2395 q2396 q2397 q107 hy_X8_count ⟨Nat.le_of_ble_eq_true rfl, Nat.le_of_ble_eq_true rfl⟩ (Nat.le_of_ble_eq_true rfl) rfl dL_law_2914 ?_
  refine x_lcmp hC dL_law_2917 ?_
  refine x_if_eq (tgt := 2923) hC dL_law_2918 (by decide) (fun u1171 => ?_) (fun u1171 => ?_)
  · have hF := it_t u1171 hF
    exact w_L_law_2923 hC hX hk23 hF
  · have hF := it_f u1171 hF
    refine X.sub (lv' := []) [] rfl ?_
    exact w_L_law_2921 hC hX  hF
theorem w_L_law_23 {cx : zX} {h0 : AH} (hC : Cx cx RX0 cL_law 8 8192 104096 (some .boolean) h0) {b L : Nat} {xs : Nat → Int32} (hX : zScr cx.G b L xs) {h : AH} {r : (Int32 × AH)} {kh23 : AH → Nat → Nat → Nat → Int32 → Option (Int32 × AH)} (hk23 : ∀ (h : AH) (a1 : Nat) (a2 : Nat) (a3 : Nat) (x4 : Int32), kh23 h a1 a2 a3 x4 = some r → X cx 8 (zQ cx h0 (.inl (some (.int r.1))) r.2) h 23 [(0, .ref b), (1, .ref a1), (2, .ref a2), (3, .ref a3), (4, .int x4)] []) {a1 : Nat} {a2 : Nat} {a3 : Nat} {x4 : Int32} (hF : B_L_law_23 h L xs kh23 a1 a2 a3 x4 = some r) : X cx 8 (zQ cx h0 (.inl (some (.int r.1))) r.2) h 23 [(0, .ref b), (1, .ref a1), (2, .ref a2), (3, .ref a3), (4, .int x4)] [] := by
  refine x_iload hC dL_law_23 4 rfl ?_
  refine x_aload_n hC dL_law_25 0 rfl ?_
  refine x_slenQ hC hX dL_law_26 ?_
  refine x_bipush (v := 6) hC dL_law_27 (by decide) ?_
  refine x_isub hC dL_law_29 ?_
  refine x_icmp_gt (tgt := 2929) hC dL_law_30 (by decide) (fun u1174 => ?_) (fun u1174 => ?_)
  · have hF := it_t u1174 hF
    refine X.sub (lv' := []) [] rfl ?_
    exact w_L_law_2929 hC hX  hF
  · have hF := it_f u1174 hF
    refine x_aload_n hC dL_law_33 0 rfl ?_
    refine x_iload hC dL_law_34 4 rfl ?_
    obtain ⟨g1172, hF⟩ := gd_e hF
    refine x_sld hC hX g1172 dL_law_36 ?_
    refine x_bipush (v := 63) hC dL_law_37 (by decide) ?_
    refine x_iand hC dL_law_39 ?_
    by_cases u1173_0 : ((xs (ix x4)) &&& 63) = 0
    · have hF := it_t u1173_0 hF
      refine x_tableIn (tgt := 216) (off := 176) hC dL_law_40 (by rw [u1173_0]; decide) (by rw [u1173_0]; decide) (by rw [u1173_0]; decide) (by decide) ?_
      exact w_L_law_216 hC hX hk23 hF
    have hF := it_f u1173_0 hF
    by_cases u1173_1 : ((xs (ix x4)) &&& 63) = 1
    · have hF := it_t u1173_1 hF
      refine x_tableIn (tgt := 296) (off := 256) hC dL_law_40 (by rw [u1173_1]; decide) (by rw [u1173_1]; decide) (by rw [u1173_1]; decide) (by decide) ?_
      exact w_L_law_296 hC hX hk23 hF
    have hF := it_f u1173_1 hF
    by_cases u1173_2 : ((xs (ix x4)) &&& 63) = 2
    · have hF := it_t u1173_2 hF
      refine x_tableIn (tgt := 388) (off := 348) hC dL_law_40 (by rw [u1173_2]; decide) (by rw [u1173_2]; decide) (by rw [u1173_2]; decide) (by decide) ?_
      exact w_L_law_388 hC hX hk23 hF
    have hF := it_f u1173_2 hF
    by_cases u1173_3 : ((xs (ix x4)) &&& 63) = 3
    · have hF := it_t u1173_3 hF
      refine x_tableIn (tgt := 456) (off := 416) hC dL_law_40 (by rw [u1173_3]; decide) (by rw [u1173_3]; decide) (by rw [u1173_3]; decide) (by decide) ?_
      exact w_L_law_456 hC hX hk23 hF
    have hF := it_f u1173_3 hF
    by_cases u1173_4 : ((xs (ix x4)) &&& 63) = 4
    · have hF := it_t u1173_4 hF
      refine x_tableIn (tgt := 524) (off := 484) hC dL_law_40 (by rw [u1173_4]; decide) (by rw [u1173_4]; decide) (by rw [u1173_4]; decide) (by decide) ?_
      exact w_L_law_524 hC hX hk23 hF
    have hF := it_f u1173_4 hF
    by_cases u1173_5 : ((xs (ix x4)) &&& 63) = 5
    · have hF := it_t u1173_5 hF
      refine x_tableIn (tgt := 597) (off := 557) hC dL_law_40 (by rw [u1173_5]; decide) (by rw [u1173_5]; decide) (by rw [u1173_5]; decide) (by decide) ?_
      exact w_L_law_597 hC hX hk23 hF
    have hF := it_f u1173_5 hF
    by_cases u1173_6 : ((xs (ix x4)) &&& 63) = 6
    · have hF := it_t u1173_6 hF
      refine x_tableIn (tgt := 665) (off := 625) hC dL_law_40 (by rw [u1173_6]; decide) (by rw [u1173_6]; decide) (by rw [u1173_6]; decide) (by decide) ?_
      exact w_L_law_665 hC hX hk23 hF
    have hF := it_f u1173_6 hF
    by_cases u1173_7 : ((xs (ix x4)) &&& 63) = 7
    · have hF := it_t u1173_7 hF
      refine x_tableIn (tgt := 721) (off := 681) hC dL_law_40 (by rw [u1173_7]; decide) (by rw [u1173_7]; decide) (by rw [u1173_7]; decide) (by decide) ?_
      exact w_L_law_721 hC hX hk23 hF
    have hF := it_f u1173_7 hF
    by_cases u1173_8 : ((xs (ix x4)) &&& 63) = 8
    · have hF := it_t u1173_8 hF
      refine x_tableIn (tgt := 746) (off := 706) hC dL_law_40 (by rw [u1173_8]; decide) (by rw [u1173_8]; decide) (by rw [u1173_8]; decide) (by decide) ?_
      exact w_L_law_746 hC hX hk23 hF
    have hF := it_f u1173_8 hF
    by_cases u1173_9 : ((xs (ix x4)) &&& 63) = 9
    · have hF := it_t u1173_9 hF
      refine x_tableIn (tgt := 802) (off := 762) hC dL_law_40 (by rw [u1173_9]; decide) (by rw [u1173_9]; decide) (by rw [u1173_9]; decide) (by decide) ?_
      exact w_L_law_802 hC hX hk23 hF
    have hF := it_f u1173_9 hF
    by_cases u1173_10 : ((xs (ix x4)) &&& 63) = 10
    · have hF := it_t u1173_10 hF
      refine x_tableIn (tgt := 858) (off := 818) hC dL_law_40 (by rw [u1173_10]; decide) (by rw [u1173_10]; decide) (by rw [u1173_10]; decide) (by decide) ?_
      exact w_L_law_858 hC hX hk23 hF
    have hF := it_f u1173_10 hF
    by_cases u1173_11 : ((xs (ix x4)) &&& 63) = 11
    · have hF := it_t u1173_11 hF
      refine x_tableIn (tgt := 926) (off := 886) hC dL_law_40 (by rw [u1173_11]; decide) (by rw [u1173_11]; decide) (by rw [u1173_11]; decide) (by decide) ?_
      exact w_L_law_926 hC hX hk23 hF
    have hF := it_f u1173_11 hF
    by_cases u1173_12 : ((xs (ix x4)) &&& 63) = 12
    · have hF := it_t u1173_12 hF
      refine x_tableIn (tgt := 982) (off := 942) hC dL_law_40 (by rw [u1173_12]; decide) (by rw [u1173_12]; decide) (by rw [u1173_12]; decide) (by decide) ?_
      exact w_L_law_982 hC hX hk23 hF
    have hF := it_f u1173_12 hF
    by_cases u1173_13 : ((xs (ix x4)) &&& 63) = 13
    · have hF := it_t u1173_13 hF
      refine x_tableIn (tgt := 1049) (off := 1009) hC dL_law_40 (by rw [u1173_13]; decide) (by rw [u1173_13]; decide) (by rw [u1173_13]; decide) (by decide) ?_
      exact w_L_law_1049 hC hX hk23 hF
    have hF := it_f u1173_13 hF
    by_cases u1173_14 : ((xs (ix x4)) &&& 63) = 14
    · have hF := it_t u1173_14 hF
      refine x_tableIn (tgt := 1105) (off := 1065) hC dL_law_40 (by rw [u1173_14]; decide) (by rw [u1173_14]; decide) (by rw [u1173_14]; decide) (by decide) ?_
      exact w_L_law_1105 hC hX hk23 hF
    have hF := it_f u1173_14 hF
    by_cases u1173_15 : ((xs (ix x4)) &&& 63) = 15
    · have hF := it_t u1173_15 hF
      refine x_tableIn (tgt := 1118) (off := 1078) hC dL_law_40 (by rw [u1173_15]; decide) (by rw [u1173_15]; decide) (by rw [u1173_15]; decide) (by decide) ?_
      exact w_L_law_1118 hC hX hk23 hF
    have hF := it_f u1173_15 hF
    by_cases u1173_16 : ((xs (ix x4)) &&& 63) = 16
    · have hF := it_t u1173_16 hF
      refine x_tableIn (tgt := 1202) (off := 1162) hC dL_law_40 (by rw [u1173_16]; decide) (by rw [u1173_16]; decide) (by rw [u1173_16]; decide) (by decide) ?_
      exact w_L_law_1202 hC hX hk23 hF
    have hF := it_f u1173_16 hF
    by_cases u1173_17 : ((xs (ix x4)) &&& 63) = 17
    · have hF := it_t u1173_17 hF
      refine x_tableIn (tgt := 1305) (off := 1265) hC dL_law_40 (by rw [u1173_17]; decide) (by rw [u1173_17]; decide) (by rw [u1173_17]; decide) (by decide) ?_
      exact w_L_law_1305 hC hX hk23 hF
    have hF := it_f u1173_17 hF
    by_cases u1173_18 : ((xs (ix x4)) &&& 63) = 18
    · have hF := it_t u1173_18 hF
      refine x_tableIn (tgt := 1319) (off := 1279) hC dL_law_40 (by rw [u1173_18]; decide) (by rw [u1173_18]; decide) (by rw [u1173_18]; decide) (by decide) ?_
      exact w_L_law_1319 hC hX hk23 hF
    have hF := it_f u1173_18 hF
    by_cases u1173_19 : ((xs (ix x4)) &&& 63) = 19
    · have hF := it_t u1173_19 hF
      refine x_tableIn (tgt := 1333) (off := 1293) hC dL_law_40 (by rw [u1173_19]; decide) (by rw [u1173_19]; decide) (by rw [u1173_19]; decide) (by decide) ?_
      exact w_L_law_1333 hC hX hk23 hF
    have hF := it_f u1173_19 hF
    by_cases u1173_20 : ((xs (ix x4)) &&& 63) = 20
    · have hF := it_t u1173_20 hF
      refine x_tableIn (tgt := 1389) (off := 1349) hC dL_law_40 (by rw [u1173_20]; decide) (by rw [u1173_20]; decide) (by rw [u1173_20]; decide) (by decide) ?_
      exact w_L_law_1389 hC hX hk23 hF
    have hF := it_f u1173_20 hF
    by_cases u1173_21 : ((xs (ix x4)) &&& 63) = 21
    · have hF := it_t u1173_21 hF
      refine x_tableIn (tgt := 1509) (off := 1469) hC dL_law_40 (by rw [u1173_21]; decide) (by rw [u1173_21]; decide) (by rw [u1173_21]; decide) (by decide) ?_
      exact w_L_law_1509 hC hX hk23 hF
    have hF := it_f u1173_21 hF
    by_cases u1173_22 : ((xs (ix x4)) &&& 63) = 22
    · have hF := it_t u1173_22 hF
      refine x_tableIn (tgt := 1589) (off := 1549) hC dL_law_40 (by rw [u1173_22]; decide) (by rw [u1173_22]; decide) (by rw [u1173_22]; decide) (by decide) ?_
      exact w_L_law_1589 hC hX hk23 hF
    have hF := it_f u1173_22 hF
    by_cases u1173_23 : ((xs (ix x4)) &&& 63) = 23
    · have hF := it_t u1173_23 hF
      refine x_tableIn (tgt := 1669) (off := 1629) hC dL_law_40 (by rw [u1173_23]; decide) (by rw [u1173_23]; decide) (by rw [u1173_23]; decide) (by decide) ?_
      exact w_L_law_1669 hC hX hk23 hF
    have hF := it_f u1173_23 hF
    by_cases u1173_24 : ((xs (ix x4)) &&& 63) = 24
    · have hF := it_t u1173_24 hF
      refine x_tableIn (tgt := 1737) (off := 1697) hC dL_law_40 (by rw [u1173_24]; decide) (by rw [u1173_24]; decide) (by rw [u1173_24]; decide) (by decide) ?_
      exact w_L_law_1737 hC hX hk23 hF
    have hF := it_f u1173_24 hF
    by_cases u1173_25 : ((xs (ix x4)) &&& 63) = 25
    · have hF := it_t u1173_25 hF
      refine x_tableIn (tgt := 1841) (off := 1801) hC dL_law_40 (by rw [u1173_25]; decide) (by rw [u1173_25]; decide) (by rw [u1173_25]; decide) (by decide) ?_
      exact w_L_law_1841 hC hX hk23 hF
    have hF := it_f u1173_25 hF
    by_cases u1173_26 : ((xs (ix x4)) &&& 63) = 26
    · have hF := it_t u1173_26 hF
      refine x_tableIn (tgt := 1960) (off := 1920) hC dL_law_40 (by rw [u1173_26]; decide) (by rw [u1173_26]; decide) (by rw [u1173_26]; decide) (by decide) ?_
      exact w_L_law_1960 hC hX hk23 hF
    have hF := it_f u1173_26 hF
    by_cases u1173_27 : ((xs (ix x4)) &&& 63) = 27
    · have hF := it_t u1173_27 hF
      refine x_tableIn (tgt := 2052) (off := 2012) hC dL_law_40 (by rw [u1173_27]; decide) (by rw [u1173_27]; decide) (by rw [u1173_27]; decide) (by decide) ?_
      exact w_L_law_2052 hC hX hk23 hF
    have hF := it_f u1173_27 hF
    by_cases u1173_28 : ((xs (ix x4)) &&& 63) = 28
    · have hF := it_t u1173_28 hF
      refine x_tableIn (tgt := 2144) (off := 2104) hC dL_law_40 (by rw [u1173_28]; decide) (by rw [u1173_28]; decide) (by rw [u1173_28]; decide) (by decide) ?_
      exact w_L_law_2144 hC hX hk23 hF
    have hF := it_f u1173_28 hF
    by_cases u1173_29 : ((xs (ix x4)) &&& 63) = 29
    · have hF := it_t u1173_29 hF
      refine x_tableIn (tgt := 2248) (off := 2208) hC dL_law_40 (by rw [u1173_29]; decide) (by rw [u1173_29]; decide) (by rw [u1173_29]; decide) (by decide) ?_
      exact w_L_law_2248 hC hX hk23 hF
    have hF := it_f u1173_29 hF
    by_cases u1173_30 : ((xs (ix x4)) &&& 63) = 30
    · have hF := it_t u1173_30 hF
      refine x_tableIn (tgt := 2323) (off := 2283) hC dL_law_40 (by rw [u1173_30]; decide) (by rw [u1173_30]; decide) (by rw [u1173_30]; decide) (by decide) ?_
      exact w_L_law_2323 hC hX hk23 hF
    have hF := it_f u1173_30 hF
    by_cases u1173_31 : ((xs (ix x4)) &&& 63) = 31
    · have hF := it_t u1173_31 hF
      refine x_tableIn (tgt := 2403) (off := 2363) hC dL_law_40 (by rw [u1173_31]; decide) (by rw [u1173_31]; decide) (by rw [u1173_31]; decide) (by decide) ?_
      exact w_L_law_2403 hC hX hk23 hF
    have hF := it_f u1173_31 hF
    by_cases u1173_32 : ((xs (ix x4)) &&& 63) = 32
    · have hF := it_t u1173_32 hF
      refine x_tableIn (tgt := 2414) (off := 2374) hC dL_law_40 (by rw [u1173_32]; decide) (by rw [u1173_32]; decide) (by rw [u1173_32]; decide) (by decide) ?_
      exact w_L_law_2414 hC hX hk23 hF
    have hF := it_f u1173_32 hF
    by_cases u1173_33 : ((xs (ix x4)) &&& 63) = 33
    · have hF := it_t u1173_33 hF
      refine x_tableIn (tgt := 2506) (off := 2466) hC dL_law_40 (by rw [u1173_33]; decide) (by rw [u1173_33]; decide) (by rw [u1173_33]; decide) (by decide) ?_
      exact w_L_law_2506 hC hX hk23 hF
    have hF := it_f u1173_33 hF
    by_cases u1173_34 : ((xs (ix x4)) &&& 63) = 34
    · have hF := it_t u1173_34 hF
      refine x_tableIn (tgt := 2598) (off := 2558) hC dL_law_40 (by rw [u1173_34]; decide) (by rw [u1173_34]; decide) (by rw [u1173_34]; decide) (by decide) ?_
      exact w_L_law_2598 hC hX hk23 hF
    have hF := it_f u1173_34 hF
    by_cases u1173_35 : ((xs (ix x4)) &&& 63) = 35
    · have hF := it_t u1173_35 hF
      refine x_tableIn (tgt := 2654) (off := 2614) hC dL_law_40 (by rw [u1173_35]; decide) (by rw [u1173_35]; decide) (by rw [u1173_35]; decide) (by decide) ?_
      exact w_L_law_2654 hC hX hk23 hF
    have hF := it_f u1173_35 hF
    by_cases u1173_36 : ((xs (ix x4)) &&& 63) = 36
    · have hF := it_t u1173_36 hF
      refine x_tableIn (tgt := 2714) (off := 2674) hC dL_law_40 (by rw [u1173_36]; decide) (by rw [u1173_36]; decide) (by rw [u1173_36]; decide) (by decide) ?_
      exact w_L_law_2714 hC hX hk23 hF
    have hF := it_f u1173_36 hF
    by_cases u1173_37 : ((xs (ix x4)) &&& 63) = 37
    · have hF := it_t u1173_37 hF
      refine x_tableIn (tgt := 2825) (off := 2785) hC dL_law_40 (by rw [u1173_37]; decide) (by rw [u1173_37]; decide) (by rw [u1173_37]; decide) (by decide) ?_
      exact w_L_law_2825 hC hX hk23 hF
    have hF := it_f u1173_37 hF
    by_cases u1173_38 : ((xs (ix x4)) &&& 63) = 38
    · have hF := it_t u1173_38 hF
      refine x_tableIn (tgt := 2861) (off := 2821) hC dL_law_40 (by rw [u1173_38]; decide) (by rw [u1173_38]; decide) (by rw [u1173_38]; decide) (by decide) ?_
      exact w_L_law_2861 hC hX hk23 hF
    have hF := it_f u1173_38 hF
    by_cases u1173_39 : ((xs (ix x4)) &&& 63) = 39
    · have hF := it_t u1173_39 hF
      refine x_tableIn (tgt := 2897) (off := 2857) hC dL_law_40 (by rw [u1173_39]; decide) (by rw [u1173_39]; decide) (by rw [u1173_39]; decide) (by decide) ?_
      exact w_L_law_2897 hC hX hk23 hF
    have hF := it_f u1173_39 hF
    refine x_tableOut (tgt := 2923) hC dL_law_40 (tb_out fun i i1 i2 => ?_) (by decide) ?_
    · have i3 : i = 0 ∨ i = 1 ∨ i = 2 ∨ i = 3 ∨ i = 4 ∨ i = 5 ∨ i = 6 ∨ i = 7 ∨ i = 8 ∨ i = 9 ∨ i = 10 ∨ i = 11 ∨ i = 12 ∨ i = 13 ∨ i = 14 ∨ i = 15 ∨ i = 16 ∨ i = 17 ∨ i = 18 ∨ i = 19 ∨ i = 20 ∨ i = 21 ∨ i = 22 ∨ i = 23 ∨ i = 24 ∨ i = 25 ∨ i = 26 ∨ i = 27 ∨ i = 28 ∨ i = 29 ∨ i = 30 ∨ i = 31 ∨ i = 32 ∨ i = 33 ∨ i = 34 ∨ i = 35 ∨ i = 36 ∨ i = 37 ∨ i = 38 ∨ i = 39 := by omega
      rcases i3 with rfl | rfl | rfl | rfl | rfl | rfl | rfl | rfl | rfl | rfl | rfl | rfl | rfl | rfl | rfl | rfl | rfl | rfl | rfl | rfl | rfl | rfl | rfl | rfl | rfl | rfl | rfl | rfl | rfl | rfl | rfl | rfl | rfl | rfl | rfl | rfl | rfl | rfl | rfl | rfl
      · exact u1173_0
      · exact u1173_1
      · exact u1173_2
      · exact u1173_3
      · exact u1173_4
      · exact u1173_5
      · exact u1173_6
      · exact u1173_7
      · exact u1173_8
      · exact u1173_9
      · exact u1173_10
      · exact u1173_11
      · exact u1173_12
      · exact u1173_13
      · exact u1173_14
      · exact u1173_15
      · exact u1173_16
      · exact u1173_17
      · exact u1173_18
      · exact u1173_19
      · exact u1173_20
      · exact u1173_21
      · exact u1173_22
      · exact u1173_23
      · exact u1173_24
      · exact u1173_25
      · exact u1173_26
      · exact u1173_27
      · exact u1173_28
      · exact u1173_29
      · exact u1173_30
      · exact u1173_31
      · exact u1173_32
      · exact u1173_33
      · exact u1173_34
      · exact u1173_35
      · exact u1173_36
      · exact u1173_37
      · exact u1173_38
      · exact u1173_39
    exact w_L_law_2923 hC hX hk23 hF
theorem wl_L_law_23 {cx : zX} {h0 : AH} (hC : Cx cx RX0 cL_law 8 8192 104096 (some .boolean) h0) {b L : Nat} {xs : Nat → Int32} (hX : zScr cx.G b L xs) {h : AH} {r : (Int32 × AH)}   {a1 : Nat} {a2 : Nat} {a3 : Nat} {x4 : Int32} (hF : G_L_law_23 h L xs  a1 a2 a3 x4 = some r) : X cx 8 (zQ cx h0 (.inl (some (.int r.1))) r.2) h 23 [(0, .ref b), (1, .ref a1), (2, .ref a2), (3, .ref a3), (4, .int x4)] [] := by
  refine lp_ind (body := L_L_law_23 h L xs ) (P := fun s => X cx 8 (zQ cx h0 (.inl (some (.int r.1))) r.2) s.1 23 [(0, .ref b), (1, .ref (s.2.1)), (2, .ref (s.2.2.1)), (3, .ref (s.2.2.2.1)), (4, .int (s.2.2.2.2))] []) (fun self ih s hB => ?_) fuel (h, a1, a2, a3, x4) hF
  exact w_L_law_23 (h := s.1) (r := r)  (kh23 := (fun h a1 a2 a3 x4 => self (h, a1, a2, a3, x4))) (a1 := s.2.1) (a2 := s.2.2.1) (a3 := s.2.2.2.1) (x4 := s.2.2.2.2) hC hX  (fun h a1 a2 a3 x4 e => ih (h, a1, a2, a3, x4) e) hB
theorem w_L_law {cx : zX} {h0 : AH} (hC : Cx cx RX0 cL_law 8 8192 104096 (some .boolean) h0) {b L : Nat} {xs : Nat → Int32} (hX : zScr cx.G b L xs) {h : AH}  {r : (Int32 × AH)} (hF : F_L_law h L xs  = some r) : X cx 8 (zQ cx h0 (.inl (some (.int r.1))) r.2) h 0 [(0, .ref b)] [] := by
  obtain ⟨g1175, hF⟩ := gd_e hF
  obtain ⟨h1176, e1177, hF⟩ := lh_e hF
  refine x_newE (κ := 1) hC e1177 rfl rfl rfl q146 q147 q97 g1175.1 g1175.2 (by decide) dL_law_0 ?_
  refine x_dup hC dL_law_3 rfl ?_
  obtain ⟨r1178, e1179, hF⟩ := bd_e hF
  refine xk_I (As := []) (st := [.ref (hn h)]) hC (m_X1_init hC.fl e1179) q148 q149 rfl q150 q97 hy_X1_init ⟨Nat.le_of_ble_eq_true rfl, Nat.le_of_ble_eq_true rfl⟩ (Nat.le_of_ble_eq_true rfl) rfl dL_law_4 ?_
  refine x_astore_n (lv' := [(0, .ref b), (1, .ref (hn h))]) hC dL_law_7 (by decide) [1, 0] rfl ?_
  obtain ⟨g1180, hF⟩ := gd_e hF
  obtain ⟨h1181, e1182, hF⟩ := lh_e hF
  refine x_newE (κ := 8) hC e1182 rfl rfl rfl q1822 q1823 q107 g1180.1 g1180.2 (by decide) dL_law_8 ?_
  refine x_dup hC dL_law_11 rfl ?_
  obtain ⟨r1183, e1184, hF⟩ := bd_e hF
  refine xk_I (As := []) (st := [.ref (hn r1178)]) hC (m_X8_init hC.fl e1184) q1824 q1825 rfl q1826 q107 hy_X8_init ⟨Nat.le_of_ble_eq_true rfl, Nat.le_of_ble_eq_true rfl⟩ (Nat.le_of_ble_eq_true rfl) rfl dL_law_12 ?_
  refine x_astore_n (lv' := [(0, .ref b), (1, .ref (hn h)), (2, .ref (hn r1178))]) hC dL_law_15 (by decide) [1, 2, 0] rfl ?_
  refine x_iconst (v := 1) hC dL_law_16 (by decide) ?_
  obtain ⟨g1185, hF⟩ := gd_e hF
  obtain ⟨h1186, e1187, hF⟩ := lh_e hF
  refine x_newaE (κ := 102) (atype := .long) hC e1187 rfl rfl q322 rfl g1185 dL_law_17 ?_
  refine x_astore_n (lv' := [(0, .ref b), (1, .ref (hn h)), (2, .ref (hn r1178)), (3, .ref (hn r1183))]) hC dL_law_19 (by decide) [1, 2, 3, 0] rfl ?_
  refine x_iconst (v := 0) hC dL_law_20 (by decide) ?_
  refine x_istore (lv' := [(0, .ref b), (1, .ref (hn h)), (2, .ref (hn r1178)), (3, .ref (hn r1183)), (4, .int 0)]) hC dL_law_21 (by decide) [1, 2, 3, 4, 0] rfl ?_
  exact wl_L_law_23 hC hX  hF
