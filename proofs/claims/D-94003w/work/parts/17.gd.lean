/-! terms -/
set_option maxRecDepth 100000
theorem lo_c {a o d k off : Int} {r : List (Int × Int)} (h : ¬ a = k) (q : Op.lookupswitch.offset r d k = off) : Op.lookupswitch.offset ((a, o) :: r) d k = off := by rw [Op.lookupswitch.offset_cons, if_neg h]; exact q
theorem lo_n {x v : Int32} {a : Int} (h : ¬ x = v) (e : v.toInt = a) : ¬ a = x.toInt := fun z => h (Int32.toInt_inj.1 (z.symm.trans e.symm))
def TermC (Γ : zG) (l : Launch) (h : AH) (n a f : Nat) (r : Int32) : Prop :=
  (hK h a = 22 ∧ zM Γ l yX22_of (ws_ yX22_of cX22_of 2 (some .int)) (n + 1) (100 * (n + 1)) [.ref a, .ref f] h (.inl (some (.int r))) h) ∨
  (hK h a = 23 ∧ zM Γ l yX23_of (ws_ yX23_of cX23_of 2 (some .int)) (n + 1) (100 * (n + 1)) [.ref a, .ref f] h (.inl (some (.int r))) h) ∨
  (hK h a = 24 ∧ zM Γ l yX24_of (ws_ yX24_of cX24_of 2 (some .int)) (n + 1) (100 * (n + 1)) [.ref a, .ref f] h (.inl (some (.int r))) h) ∨
  (hK h a = 25 ∧ zM Γ l yX25_of (ws_ yX25_of cX25_of 4 (some .int)) (n + 1) (100 * (n + 1)) [.ref a, .ref f] h (.inl (some (.int r))) h)
theorem hy_Term : ("PumpCrossing$Term" : String) ≠ "java/lang/invoke/MethodHandle" ∧ ("PumpCrossing$Term" : String) ≠ "java/lang/invoke/VarHandle" ∧ (parseMethodDescriptor "([I)I").map (fun d => d.parameters.length) = some 1 := by decide +kernel
theorem xk_Tm {cx : zX} {own : String} {cc : ByteArray} {nL fr lo : Nat} {rt : Option FieldType} {h0 h : AH} {Q : State → Prop} {pc : Nat} {lv : List (Nat × Value)} {st : List Value} (hC : Cx cx own cc nL fr lo rt h0) {idx count n a f : Nat} {r : Int32} (hT : TermC cx.G cx.l h n a f r) (w1 : Cond.methodLink own idx ⟨"PumpCrossing$Term", "of", "([I)I"⟩ ∈ lw_all) (hR : n + 2 ≤ fr ∧ 40 + 100 * (n + 1) ≤ lo) (hst : (st.map fun v => v.category).sum ≤ 8) (d : decode cc pc = .ok (.invokeinterface idx count, 5)) (k : X cx nL Q h (pc + 5) lv (.int r :: st)) : X cx nL Q h pc lv (.ref f :: .ref a :: st) := by
  rcases hT with ⟨g1, hM⟩ | ⟨g1, hM⟩ | ⟨g1, hM⟩ | ⟨g1, hM⟩
  · exact xk_F (κ := 22) (x := ⟨"PumpCrossing$Term", "of", "([I)I"⟩) (As := [.ref f]) (st := st) hC hM g1 rfl w1 q1362 q1360 q1352 q1351 q1363 q1361 q1359 q1364 q137 hy_Term ⟨by omega, by omega⟩ hst rfl d k
  · exact xk_F (κ := 23) (x := ⟨"PumpCrossing$Term", "of", "([I)I"⟩) (As := [.ref f]) (st := st) hC hM g1 rfl w1 q1370 q1368 q1352 q1351 q1371 q1369 q1367 q1372 q138 hy_Term ⟨by omega, by omega⟩ hst rfl d k
  · exact xk_F (κ := 24) (x := ⟨"PumpCrossing$Term", "of", "([I)I"⟩) (As := [.ref f]) (st := st) hC hM g1 rfl w1 q1356 q1354 q1352 q1351 q1357 q1355 q1353 q1358 q139 hy_Term ⟨by omega, by omega⟩ hst rfl d k
  · exact xk_F (κ := 25) (x := ⟨"PumpCrossing$Term", "of", "([I)I"⟩) (As := [.ref f]) (st := st) hC hM g1 rfl w1 q1376 q1374 q1352 q1351 q1377 q1375 q1373 q1378 q140 hy_Term ⟨by omega, by omega⟩ hst rfl d k
