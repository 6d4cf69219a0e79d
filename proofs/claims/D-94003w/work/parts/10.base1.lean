/-! BASE 1: an abstract heap (size, slots, kinds, lengths, ints, longs, references), what it says of the machine's heap, the judgement X over the kit's W, and X's rows -/
set_option maxRecDepth 100000
abbrev AH : Type := Nat × Nat × Nat × (Nat → Nat) × (Nat → Nat) × (Nat → Nat → Int32) × (Nat → Nat → Int64) × (Nat → Nat → Option Nat)
def hn (h : AH) : Nat := h.1
/-- cells, slots that may still be made -/
def hc (h : AH) : Nat := h.2.1
def hs (h : AH) : Nat := h.2.2.1
def hK (h : AH) : Nat → Nat := h.2.2.2.1
def hL (h : AH) : Nat → Nat := h.2.2.2.2.1
def hI (h : AH) : Nat → Nat → Int32 := h.2.2.2.2.2.1
def hJ (h : AH) : Nat → Nat → Int64 := h.2.2.2.2.2.2.1
def hR (h : AH) : Nat → Nat → Option Nat := h.2.2.2.2.2.2.2
def up2 {α : Type} (f : Nat → Nat → α) (a k : Nat) (x : α) : Nat → Nat → α := fun b j => if b = a ∧ j = k then x else f b j
def up1 (f : Nat → Nat) (a v : Nat) : Nat → Nat := fun b => if b = a then v else f b
def clr {α : Type} (f : Nat → Nat → α) (a : Nat) (x : α) : Nat → Nat → α := fun b j => if b = a then x else f b j
def wI (h : AH) (a k : Nat) (x : Int32) : AH := (hn h, hc h, hs h, hK h, hL h, up2 (hI h) a k x, hJ h, hR h)
def wJ (h : AH) (a k : Nat) (x : Int64) : AH := (hn h, hc h, hs h, hK h, hL h, hI h, up2 (hJ h) a k x, hR h)
def wR (h : AH) (a k : Nat) (x : Option Nat) : AH := (hn h, hc h, hs h, hK h, hL h, hI h, hJ h, up2 (hR h) a k x)
/-- a new cell: kind, length, slots -/
def nw (h : AH) (κ len sl : Nat) : AH := (hn h + 1, hc h - 1, hs h - sl, up1 (hK h) (hn h) κ, up1 (hL h) (hn h) len, clr (hI h) (hn h) 0, clr (hJ h) (hn h) 0, clr (hR h) (hn h) none)
def rv (o : Option Nat) : Value := match o with
  | none => .null
  | some a => .ref a
def fv (h : AH) (a : Nat) (ty : FieldType) (k : Nat) : Value := match ty with
  | .long => .long (hJ h a k)
  | .object _ => rv (hR h a k)
  | .array _ => rv (hR h a k)
  | _ => .int (hI h a k)
def zC (κ : Nat) : vw_C := match κ with
  | 1 => (RX1, TX1, 21)
  | 2 => (RX2, TX2, 12)
  | 3 => (RX3, TX3, 5)
  | 4 => (RX4, TX4, 1)
  | 5 => (RX5, TX5, 1)
  | 6 => (RX6, TX6, 6)
  | 7 => (RX7, TX7, 1)
  | 8 => (RX8, TX8, 40)
  | 9 => (RX9, TX9, 8)
  | 10 => (RX10, TX10, 4)
  | 11 => (RX11, TX11, 3)
  | 13 => (RX13, TX13, 8)
  | 14 => (RX14, TX14, 8)
  | 16 => (RX16, TX16, 1)
  | 17 => (RX17, TX17, 1)
  | 18 => (RX18, TX18, 1)
  | 19 => (RX19, TX19, 1)
  | 20 => (RX20, TX20, 1)
  | 21 => (RX21, TX21, 2)
  | 22 => (RX22, TX22, 1)
  | 23 => (RX23, TX23, 1)
  | 24 => (RX24, TX24, 1)
  | 25 => (RX25, TX25, 3)
  | 26 => (RX26, TX26, 7)
  | _ => (RJ2, TJ2, 3)
def zty (κ : Nat) : Nat → FieldType := match κ with
  | 1 => tyX1
  | 2 => tyX2
  | 3 => tyX3
  | 4 => tyX4
  | 5 => tyX5
  | 6 => tyX6
  | 7 => tyX7
  | 8 => tyX8
  | 9 => tyX9
  | 10 => tyX10
  | 11 => tyX11
  | 13 => tyX13
  | 14 => tyX14
  | 16 => tyX16
  | 17 => tyX17
  | 18 => tyX18
  | 19 => tyX19
  | 20 => tyX20
  | 21 => tyX21
  | 22 => tyX22
  | 23 => tyX23
  | 24 => tyX24
  | 25 => tyX25
  | 26 => tyX26
  | _ => tyJ2
def zks : List Nat := [1, 2, 3, 4, 5, 6, 7, 8, 9, 10, 11, 13, 14, 16, 17, 18, 19, 20, 21, 22, 23, 24, 25, 26, 32]
def zIs (κ : Nat) : Bool := zks.contains κ
def zOK (κ : Nat) : Prop := (∀ w ∈ u_ws (zC κ).1 (zC κ).2.1 (zC κ).2.2, w ∈ lw_all) ∧ (∀ k, k < (zC κ).2.2 → parseFieldDescriptor ((zC κ).2.1 k).2.2.1 = some (zty κ k)) ∧ ∀ a, a < (zC κ).2.2 → ∀ b, b < (zC κ).2.2 → a ≠ b → ((zC κ).2.1 a).2.1 ≠ ((zC κ).2.1 b).2.1
theorem zok_1 : zOK 1 := ⟨in_X1, tyX1_ok, nmX1⟩
theorem zok_2 : zOK 2 := ⟨in_X2, tyX2_ok, nmX2⟩
theorem zok_3 : zOK 3 := ⟨in_X3, tyX3_ok, nmX3⟩
theorem zok_4 : zOK 4 := ⟨in_X4, tyX4_ok, nmX4⟩
theorem zok_5 : zOK 5 := ⟨in_X5, tyX5_ok, nmX5⟩
theorem zok_6 : zOK 6 := ⟨in_X6, tyX6_ok, nmX6⟩
theorem zok_7 : zOK 7 := ⟨in_X7, tyX7_ok, nmX7⟩
theorem zok_8 : zOK 8 := ⟨in_X8, tyX8_ok, nmX8⟩
theorem zok_9 : zOK 9 := ⟨in_X9, tyX9_ok, nmX9⟩
theorem zok_10 : zOK 10 := ⟨in_X10, tyX10_ok, nmX10⟩
theorem zok_11 : zOK 11 := ⟨in_X11, tyX11_ok, nmX11⟩
theorem zok_13 : zOK 13 := ⟨in_X13, tyX13_ok, nmX13⟩
theorem zok_14 : zOK 14 := ⟨in_X14, tyX14_ok, nmX14⟩
theorem zok_16 : zOK 16 := ⟨in_X16, tyX16_ok, nmX16⟩
theorem zok_17 : zOK 17 := ⟨in_X17, tyX17_ok, nmX17⟩
theorem zok_18 : zOK 18 := ⟨in_X18, tyX18_ok, nmX18⟩
theorem zok_19 : zOK 19 := ⟨in_X19, tyX19_ok, nmX19⟩
theorem zok_20 : zOK 20 := ⟨in_X20, tyX20_ok, nmX20⟩
theorem zok_21 : zOK 21 := ⟨in_X21, tyX21_ok, nmX21⟩
theorem zok_22 : zOK 22 := ⟨in_X22, tyX22_ok, nmX22⟩
theorem zok_23 : zOK 23 := ⟨in_X23, tyX23_ok, nmX23⟩
theorem zok_24 : zOK 24 := ⟨in_X24, tyX24_ok, nmX24⟩
theorem zok_25 : zOK 25 := ⟨in_X25, tyX25_ok, nmX25⟩
theorem zok_26 : zOK 26 := ⟨in_X26, tyX26_ok, nmX26⟩
theorem zok_32 : zOK 32 := ⟨in_J2, tyJ2_ok, nmJ2⟩
theorem zok {κ : Nat} (h : zIs κ = true) : zOK κ := by
  have h1 : κ ∈ zks := List.contains_iff_mem.mp h
  simp only [zks, List.mem_cons, List.not_mem_nil, or_false] at h1
  rcases h1 with rfl | rfl | rfl | rfl | rfl | rfl | rfl | rfl | rfl | rfl | rfl | rfl | rfl | rfl | rfl | rfl | rfl | rfl | rfl | rfl | rfl | rfl | rfl | rfl | rfl
  · exact zok_1
  · exact zok_2
  · exact zok_3
  · exact zok_4
  · exact zok_5
  · exact zok_6
  · exact zok_7
  · exact zok_8
  · exact zok_9
  · exact zok_10
  · exact zok_11
  · exact zok_13
  · exact zok_14
  · exact zok_16
  · exact zok_17
  · exact zok_18
  · exact zok_19
  · exact zok_20
  · exact zok_21
  · exact zok_22
  · exact zok_23
  · exact zok_24
  · exact zok_25
  · exact zok_26
  · exact zok_32
def aty (κ : Nat) : FieldType := match κ with
  | 100 => .int
  | 101 => .byte
  | 102 => .long
  | 103 => .short
  | 104 => .boolean
  | 105 => .array .int
  | 106 => .array .byte
  | 107 => .array .long
  | 108 => .object "java/lang/Object"
  | 109 => .object "PumpCrossing$Crossing"
  | 120 => .object "java/lang/Object"
  | _ => .object "PumpCrossing$Tray"
def zAr (κ : Nat) : Bool := (decide (100 ≤ κ) && decide (κ ≤ 110)) || decide (κ = 120)
/-- what is fixed all through a run: class numbers, their slots, array classes by kind, the state at the law's entry, the script's address -/
abbrev zG : Type := (Nat → ClassId) × (Nat → Nat → Nat) × (Nat → ClassId) × State × Nat × (Nat → Nat) × (Nat → Nat)
def zS (Γ : zG) : State := Γ.2.2.2.1
def z0 (Γ : zG) : Nat := (zS Γ).heap.size
def SLs (H : Heap) (z : Nat) : Nat := ((H.toList.drop z).map (·.slots.size)).sum
/-- statics that hold references, by number: they lie at the address 0 of the abstract heap -/
def zSt (j : Nat) : Option (String × String × String) := match j with
  | 0 => some ("java/util/ArrayList", "DEFAULTCAPACITY_EMPTY_ELEMENTDATA", "[Ljava/lang/Object;")
  | 1 => some ("jdk/internal/util/Preconditions", "SIOOBE_FORMATTER", "Ljava/util/function/BiFunction;")
  | 2 => some ("java/lang/Throwable", "UNASSIGNED_STACK", "[Ljava/lang/StackTraceElement;")
  | 3 => some ("java/lang/Throwable", "SUPPRESSED_SENTINEL", "Ljava/util/List;")
  | _ => none
def Rp (Γ : zG) (h : AH) (H : Heap) : Prop :=
  H.size = hn h ∧ z0 Γ ≤ hn h ∧ (∀ q, q < z0 Γ → H[q]? = (zS Γ).heap[q]?) ∧
  (∀ a κ, hK h a = κ → zIs κ = true → z0 Γ ≤ a ∧ t_OB a (Γ.1 κ) (zC κ).2.2 (Γ.2.1 κ) H (fun k => fv h a (zty κ k) k)) ∧
  (∀ a κ, hK h a = κ → zAr κ = true → (κ ≠ 120 → z0 Γ ≤ a) ∧ H[a]? = some (arrV (Γ.2.2.1 κ) (hL h a) (fun i => fv h a (aty κ) i))) ∧
  ((∀ j C n d, zSt j = some (C, n, d) → va_Z C n d (rv (hR h 0 j)) (fun q => z0 Γ ≤ q) (zS Γ) (zS Γ).heap) ∧ 0 < z0 Γ ∧ ∀ ε, hR h 0 0 = some ε → hK h ε = 120 ∧ hL h ε = 0)
/-- a method's whole context -/
abbrev zX : Type := zG × Program × Launch × Env × Room × State × MethodId × Array Value × List Frame × Method × Code
abbrev zX.G (x : zX) : zG := x.1
abbrev zX.p (x : zX) : Program := x.2.1
abbrev zX.l (x : zX) : Launch := x.2.2.1
abbrev zX.e (x : zX) : Env := x.2.2.2.1
abbrev zX.R (x : zX) : Room := x.2.2.2.2.1
abbrev zX.s (x : zX) : State := x.2.2.2.2.2.1
abbrev zX.m (x : zX) : MethodId := x.2.2.2.2.2.2.1
abbrev zX.a (x : zX) : Array Value := x.2.2.2.2.2.2.2.1
abbrev zX.b (x : zX) : List Frame := x.2.2.2.2.2.2.2.2.1
abbrev zX.M (x : zX) : Method := x.2.2.2.2.2.2.2.2.2.1
abbrev zX.c (x : zX) : Code := x.2.2.2.2.2.2.2.2.2.2
abbrev zX.W (x : zX) (H : Heap) (locs : List Loc) (cells slots : Nat) (Q : State → Prop) (g : JFrame) : Prop := Jvm.Pilot.@@N@@.W x.p x.l x.e x.R x.s x.m x.a x.b x.M x.c H locs cells slots Q g
/-- the heap's picture, and the room that is left -/
def Rq (x : zX) (h : AH) (H : Heap) : Prop := Rp x.G h H ∧ x.s.heap.size ≤ hn h ∧ hn h + hc h ≤ x.s.heap.size + x.R.cells ∧ SLs H x.s.heap.size + hs h ≤ x.R.slots
def X (x : zX) (nL : Nat) (Q : State → Prop) (h : AH) (pc : Nat) (lv : List (Nat × Value)) (st : List Value) : Prop :=
  ∀ (H : Heap) (locs : List Loc) (ls : Array Slot), Rq x h H → (∀ q ∈ locs, z0 x.G ≤ q.base) → lv_has ls nL lv → x.W H locs (H.size - x.s.heap.size) (SLs H x.s.heap.size) Q (F0 x.m pc ls st)
/-- the text constants: class, entry, text, bytes -/
def sTab : List (String × Nat × String × List Int32) := [("PumpCrossing$LawReader", 20, "once", [111, 110, 99, 101]), ("PumpCrossing$LawReader", 33, "at", [97, 116]), ("PumpCrossing$LawReader", 37, "cap", [99, 97, 112]), ("PumpCrossing$LawReader", 41, "told", [116, 111, 108, 100]), ("PumpCrossing$LawReader", 47, "cost", [99, 111, 115, 116]), ("PumpCrossing$Reader", 41, ";<=>+-", [59, 60, 61, 62, 43, 45]), ("PumpCrossing$RuleReader", 24, "up", [117, 112]), ("PumpCrossing$RuleReader", 30, "down", [100, 111, 119, 110]), ("PumpCrossing$RuleReader", 32, "to", [116, 111]), ("PumpCrossing$RuleReader", 34, "below", [98, 101, 108, 111, 119]), ("PumpCrossing$RuleReader", 36, "match", [109, 97, 116, 99, 104]), ("PumpCrossing$RuleReader", 38, "keep", [107, 101, 101, 112]), ("PumpCrossing$RuleReader", 50, "when", [119, 104, 101, 110]), ("PumpCrossing$RuleReader", 94, "or", [111, 114]), ("PumpCrossing$RuleReader", 104, "and", [97, 110, 100]), ("PumpCrossing$RuleReader", 106, "not", [110, 111, 116]), ("PumpCrossing$RuleReader", 137, "own", [111, 119, 110]), ("PumpCrossing$RuleReader", 139, "least", [108, 101, 97, 115, 116]), ("PumpCrossing$RuleReader", 141, "most", [109, 111, 115, 116]), ("PumpCrossing$RuleReader", 143, "cost", [99, 111, 115, 116]), ("PumpCrossing$RuleReader", 145, "hour", [104, 111, 117, 114]), ("PumpCrossing$RuleReader", 147, "day", [100, 97, 121]), ("PumpCrossing$RuleReader", 149, "since", [115, 105, 110, 99, 101]), ("PumpCrossing$RuleReader", 151, "rose", [114, 111, 115, 101]), ("PumpCrossing$RuleReader", 153, "fell", [102, 101, 108, 108]), ("PumpCrossingModel", 163, "own", [111, 119, 110]), ("PumpCrossingModel", 169, "least", [108, 101, 97, 115, 116]), ("PumpCrossingModel", 171, "most", [109, 111, 115, 116]), ("PumpCrossingModel", 173, "cost", [99, 111, 115, 116]), ("PumpCrossingModel", 175, "hour", [104, 111, 117, 114]), ("PumpCrossingModel", 177, "day", [100, 97, 121]), ("PumpCrossingModel", 179, "since", [115, 105, 110, 99, 101]), ("PumpCrossingModel", 181, "rose", [114, 111, 115, 101]), ("PumpCrossingModel", 183, "fell", [102, 101, 108, 108]), ("PumpCrossingModel", 194, "not", [110, 111, 116]), ("PumpCrossingModel", 205, "and", [97, 110, 100]), ("PumpCrossingModel", 210, "or", [111, 114]), ("PumpCrossingModel", 212, "up", [117, 112]), ("PumpCrossingModel", 214, "down", [100, 111, 119, 110]), ("PumpCrossingModel", 216, "to", [116, 111]), ("PumpCrossingModel", 218, "below", [98, 101, 108, 111, 119]), ("PumpCrossingModel", 220, "match", [109, 97, 116, 99, 104]), ("PumpCrossingModel", 222, "keep", [107, 101, 101, 112]), ("PumpCrossingModel", 231, "when", [119, 104, 101, 110]), ("PumpCrossingModel", 251, "once", [111, 110, 99, 101]), ("PumpCrossingModel", 253, "at", [97, 116]), ("PumpCrossingModel", 254, "cap", [99, 97, 112]), ("PumpCrossingModel", 256, "told", [116, 111, 108, 100])]
def sAt (s : Nat) : String × Nat × String × List Int32 := sTab.getD s ("", 0, "", [])
def sLen (s : Nat) : Nat := (sAt s).2.2.2.length
def sByt (s j : Nat) : Int32 := (sAt s).2.2.2.getD j 0
def zAd (Γ : zG) (s : Nat) : Nat := Γ.2.2.2.2.2.1 s
def zAv (Γ : zG) (s : Nat) : Nat := Γ.2.2.2.2.2.2 s
def zTx (Γ : zG) (s : Nat) : Prop := vk_R (sAt s).1 (sAt s).2.1 (sAt s).2.2.1 (zAd Γ s) (zS Γ) ∧ va_O "java/lang/String" (zAd Γ s) (fun q => z0 Γ ≤ q) (zS Γ) (zS Γ).heap ∧ va_OF "java/lang/String" "coder" "B" (.int 0) (zAd Γ s) (fun q => z0 Γ ≤ q) (zS Γ) (zS Γ).heap ∧ va_OF "java/lang/String" "value" "[B" (.ref (zAv Γ s)) (zAd Γ s) (fun q => z0 Γ ≤ q) (zS Γ) (zS Γ).heap ∧ va_T .byte (zAv Γ s) (sLen s) (fun j => .int (sByt s j)) (fun q => z0 Γ ≤ q) (zS Γ) (zS Γ).heap
/-- the state at the law's entry: all words of the tables, classes and array classes known -/
def zG0 (Γ : zG) : Prop := (∀ w ∈ lw_tbl, w.before #[Value.ref Γ.2.2.2.2.1] (zS Γ) = true) ∧ (∀ κ, zIs κ = true → u_Kn (zS Γ) (zC κ).1 (zC κ).2.1 (zC κ).2.2 (Γ.1 κ) (Γ.2.1 κ)) ∧ (∀ κ, zAr κ = true → ArrOfT (zS Γ) (Γ.2.2.1 κ) (aty κ) ∧ va_RA (zS Γ) (Γ.2.2.1 κ) (aty κ)) ∧ (Jvm.Cond.and given_1 narrow_1).before #[Value.ref Γ.2.2.2.2.1] (zS Γ) = true ∧ ∀ s, s < 48 → zTx Γ s
/-- what holds all through a method's body -/
def Cx (x : zX) (own : String) (cc : ByteArray) (nL fr lo : Nat) (rt : Option FieldType) (h0 : AH) : Prop :=
  x.p.tables.exec = Jvm.exec ∧ x.c.code = cc ∧ x.c.maxLocals = nL ∧ x.s.vm.findClass own = some x.m.cls ∧ (∀ w ∈ lw_all, w.before x.a x.s = true) ∧ zG0 x.G ∧ (zS x.G).WarmedH x.s.vm ∧ x.M.locks = false ∧ x.R.frames = fr ∧ x.R.locals = lo ∧ x.l.flags = flags0 ∧ x.M.sig.returnType = rt ∧ x.R.cells = hc h0 ∧ x.R.slots = hs h0 ∧ x.s.heap.size = hn h0
section XR
variable {cx : zX} {own : String} {cc : ByteArray} {nL fr lo : Nat} {rt : Option FieldType} {h0 : AH} {Q : State → Prop} {h : AH} {pc : Nat} {lv lv' : List (Nat × Value)} {st : List Value}
theorem Cx.hx (hC : Cx cx own cc nL fr lo rt h0) : cx.p.tables.exec = Jvm.exec := hC.1
theorem Cx.hb (hC : Cx cx own cc nL fr lo rt h0) : cx.c.code = cc := hC.2.1
theorem Cx.hml (hC : Cx cx own cc nL fr lo rt h0) : cx.c.maxLocals = nL := hC.2.2.1
theorem Cx.hown (hC : Cx cx own cc nL fr lo rt h0) : cx.s.vm.findClass own = some cx.m.cls := hC.2.2.2.1
theorem Cx.hts (hC : Cx cx own cc nL fr lo rt h0) : ∀ w ∈ lw_all, w.before cx.a cx.s = true := hC.2.2.2.2.1
theorem Cx.g0 (hC : Cx cx own cc nL fr lo rt h0) : zG0 cx.G := hC.2.2.2.2.2.1
theorem Cx.warm (hC : Cx cx own cc nL fr lo rt h0) : (zS cx.G).WarmedH cx.s.vm := hC.2.2.2.2.2.2.1
theorem Cx.locks (hC : Cx cx own cc nL fr lo rt h0) : cx.M.locks = false := hC.2.2.2.2.2.2.2.1
theorem Cx.rf (hC : Cx cx own cc nL fr lo rt h0) : cx.R.frames = fr := hC.2.2.2.2.2.2.2.2.1
theorem Cx.rl (hC : Cx cx own cc nL fr lo rt h0) : cx.R.locals = lo := hC.2.2.2.2.2.2.2.2.2.1
theorem Cx.fl (hC : Cx cx own cc nL fr lo rt h0) : cx.l.flags = flags0 := hC.2.2.2.2.2.2.2.2.2.2.1
theorem Cx.ret (hC : Cx cx own cc nL fr lo rt h0) : cx.M.sig.returnType = rt := hC.2.2.2.2.2.2.2.2.2.2.2.1
theorem Cx.rc (hC : Cx cx own cc nL fr lo rt h0) : cx.R.cells = hc h0 := hC.2.2.2.2.2.2.2.2.2.2.2.2.1
theorem Cx.rs (hC : Cx cx own cc nL fr lo rt h0) : cx.R.slots = hs h0 := hC.2.2.2.2.2.2.2.2.2.2.2.2.2.1
theorem Cx.hz (hC : Cx cx own cc nL fr lo rt h0) : cx.s.heap.size = hn h0 := hC.2.2.2.2.2.2.2.2.2.2.2.2.2.2
theorem Cx.kn (hC : Cx cx own cc nL fr lo rt h0) {κ : Nat} (hκ : zIs κ = true) : u_Kn cx.s (zC κ).1 (zC κ).2.1 (zC κ).2.2 (cx.G.1 κ) (cx.G.2.1 κ) := u_Kn_moved hC.warm.alike (hC.g0.2.1 κ hκ)
theorem Cx.ka (hC : Cx cx own cc nL fr lo rt h0) {κ : Nat} (hκ : zAr κ = true) : ArrOfT cx.s (cx.G.2.2.1 κ) (aty κ) ∧ va_RA cx.s (cx.G.2.2.1 κ) (aty κ) := ⟨arrOfT_moved hC.warm.alike (hC.g0.2.2.1 κ hκ).1, (hC.g0.2.2.1 κ hκ).2.moved hC.warm.alike⟩
/-- fewer locals -/
theorem X.sub (ks : List Nat) (hl : lv_pick lv ks = lv') (k : X cx nL Q h pc lv' st) : X cx nL Q h pc lv st := fun H locs ls a b c => k H locs ls a b (lv_sub c ks hl)
theorem x_iconst (hC : Cx cx own cc nL fr lo rt h0) {n : Int} {v : Int32} (d : decode cc pc = .ok (.iconst n, 1)) (hv : Int32.ofInt n = v) (k : X cx nL Q h (pc + 1) lv (.int v :: st)) : X cx nL Q h pc lv (st) := fun H locs ls a b c => lv_iconst hC.hx hC.hb d hv (k H locs ls a b c)
theorem x_bipush (hC : Cx cx own cc nL fr lo rt h0) {n : Int} {v : Int32} (d : decode cc pc = .ok (.bipush n, 2)) (hv : (Int8.ofInt n).toInt32 = v) (k : X cx nL Q h (pc + 2) lv (.int v :: st)) : X cx nL Q h pc lv (st) := fun H locs ls a b c => lv_bipush hC.hx hC.hb d hv (k H locs ls a b c)
theorem x_sipush (hC : Cx cx own cc nL fr lo rt h0) {n : Int} {v : Int32} (d : decode cc pc = .ok (.sipush n, 3)) (hv : (Int16.ofInt n).toInt32 = v) (k : X cx nL Q h (pc + 3) lv (.int v :: st)) : X cx nL Q h pc lv (st) := fun H locs ls a b c => lv_sipush hC.hx hC.hb d hv (k H locs ls a b c)
theorem x_ldc (hC : Cx cx own cc nL fr lo rt h0) {index : Nat} {v : Int32} (w : Cond.constant own index v ∈ lw_all) (d : decode cc pc = .ok (.ldc index, 2)) (k : X cx nL Q h (pc + 2) lv (.int v :: st)) : X cx nL Q h pc lv st := fun H locs ls a b c => lv_ldc hC.hx hC.hb hC.hown (hC.hts _ w) d (k H locs ls a b c)
theorem x_ldc2 (hC : Cx cx own cc nL fr lo rt h0) {index : Nat} {v : Int64} (w : Cond.constantLong own index v ∈ lw_all) (d : decode cc pc = .ok (.ldc2_w index, 3)) (k : X cx nL Q h (pc + 3) lv (.long v :: st)) : X cx nL Q h pc lv st := fun H locs ls a b c => lv_ldc2 hC.hx hC.hb hC.hown (hC.hts _ w) d (k H locs ls a b c)
theorem x_iload_n (hC : Cx cx own cc nL fr lo rt h0) {k : Fin 4} {v : Int32} (d : decode cc pc = .ok (.iload_n k, 1)) (j : Nat) (hj : lv[j]? = some ((k : Nat), .int v)) (kk : X cx nL Q h (pc + 1) lv (.int v :: st)) : X cx nL Q h pc lv st := fun H locs ls a b c => lv_iload_n hC.hx hC.hb d rfl (lv_at c j hj) (kk H locs ls a b c)
theorem x_iload (hC : Cx cx own cc nL fr lo rt h0) {i : Nat} {v : Int32} (d : decode cc pc = .ok (.iload i, 2)) (j : Nat) (hj : lv[j]? = some (i, .int v)) (kk : X cx nL Q h (pc + 2) lv (.int v :: st)) : X cx nL Q h pc lv st := fun H locs ls a b c => lv_iload hC.hx hC.hb d (lv_at c j hj) (kk H locs ls a b c)
theorem x_lload_n (hC : Cx cx own cc nL fr lo rt h0) {k : Fin 4} {v : Int64} (d : decode cc pc = .ok (.lload_n k, 1)) (j : Nat) (hj : lv[j]? = some ((k : Nat), .long v)) (kk : X cx nL Q h (pc + 1) lv (.long v :: st)) : X cx nL Q h pc lv st := fun H locs ls a b c => lv_lload_n hC.hx hC.hb d rfl (lv_at c j hj) (kk H locs ls a b c)
theorem x_lload (hC : Cx cx own cc nL fr lo rt h0) {i : Nat} {v : Int64} (d : decode cc pc = .ok (.lload i, 2)) (j : Nat) (hj : lv[j]? = some (i, .long v)) (kk : X cx nL Q h (pc + 2) lv (.long v :: st)) : X cx nL Q h pc lv st := fun H locs ls a b c => lv_lload hC.hx hC.hb d (lv_at c j hj) (kk H locs ls a b c)
theorem x_istore_n (hC : Cx cx own cc nL fr lo rt h0) {k : Fin 4} {v : Int32} (d : decode cc pc = .ok (.istore_n k, 1)) (hn : (k : Nat) < nL) (ks : List Nat) (hl : lv_pick (((k : Nat), Value.int v) :: lv.filter (fun q => !(q.1 == (k : Nat)) && !(q.1 + 1 == (k : Nat) && q.2.category == 2))) ks = lv') (kk : X cx nL Q h (pc + 1) lv' st) : X cx nL Q h pc lv (.int v :: st) := fun H locs ls a b c => lv_istore_n hC.hx hC.hb d rfl c hn rfl (fun ls' c' => kk H locs ls' a b (lv_sub c' ks hl))
theorem x_istore (hC : Cx cx own cc nL fr lo rt h0) {i : Nat} {v : Int32} (d : decode cc pc = .ok (.istore i, 2)) (hn : i < nL) (ks : List Nat) (hl : lv_pick ((i, Value.int v) :: lv.filter (fun q => !(q.1 == i) && !(q.1 + 1 == i && q.2.category == 2))) ks = lv') (kk : X cx nL Q h (pc + 2) lv' st) : X cx nL Q h pc lv (.int v :: st) := fun H locs ls a b c => lv_istore hC.hx hC.hb d c hn rfl (fun ls' c' => kk H locs ls' a b (lv_sub c' ks hl))
theorem x_lstore_n (hC : Cx cx own cc nL fr lo rt h0) {k : Fin 4} {v : Int64} (d : decode cc pc = .ok (.lstore_n k, 1)) (hn : (k : Nat) + 1 < nL) (ks : List Nat) (hl : lv_pick (((k : Nat), Value.long v) :: lv.filter (fun q => !(q.1 == (k : Nat)) && (!(q.1 == (k : Nat) + 1) && !(q.1 + 1 == (k : Nat) && q.2.category == 2)))) ks = lv') (kk : X cx nL Q h (pc + 1) lv' st) : X cx nL Q h pc lv (.long v :: st) := fun H locs ls a b c => lv_lstore_n hC.hx hC.hb d rfl c hn rfl (fun ls' c' => kk H locs ls' a b (lv_sub c' ks hl))
theorem x_lstore (hC : Cx cx own cc nL fr lo rt h0) {i : Nat} {v : Int64} (d : decode cc pc = .ok (.lstore i, 2)) (hn : i + 1 < nL) (ks : List Nat) (hl : lv_pick ((i, Value.long v) :: lv.filter (fun q => !(q.1 == i) && (!(q.1 == i + 1) && !(q.1 + 1 == i && q.2.category == 2)))) ks = lv') (kk : X cx nL Q h (pc + 2) lv' st) : X cx nL Q h pc lv (.long v :: st) := fun H locs ls a b c => lv_lstore hC.hx hC.hb d c hn rfl (fun ls' c' => kk H locs ls' a b (lv_sub c' ks hl))
theorem x_iinc (hC : Cx cx own cc nL fr lo rt h0) {i : Nat} {n : Int} {u v : Int32} (d : decode cc pc = .ok (.iinc i n, 3)) (j : Nat) (hj : lv[j]? = some (i, .int u)) (hv : u + Int32.ofInt n = v) (hn : i < nL) (ks : List Nat) (hl : lv_pick ((i, Value.int v) :: lv.filter (fun q => !(q.1 == i) && !(q.1 + 1 == i && q.2.category == 2))) ks = lv') (kk : X cx nL Q h (pc + 3) lv' st) : X cx nL Q h pc lv st := fun H locs ls a b c => lv_iinc hC.hx hC.hb d c hj hv hn rfl (fun ls' c' => kk H locs ls' a b (lv_sub c' ks hl))
theorem x_iadd (hC : Cx cx own cc nL fr lo rt h0) {x y : Int32} (d : decode cc pc = .ok (.iadd, 1))  (k : X cx nL Q h (pc + 1) lv (.int (x + y) :: st)) : X cx nL Q h pc lv (.int y :: .int x :: st) := fun H locs ls a b c => lv_iadd hC.hx hC.hb d  (k H locs ls a b c)
theorem x_isub (hC : Cx cx own cc nL fr lo rt h0) {x y : Int32} (d : decode cc pc = .ok (.isub, 1))  (k : X cx nL Q h (pc + 1) lv (.int (x - y) :: st)) : X cx nL Q h pc lv (.int y :: .int x :: st) := fun H locs ls a b c => lv_isub hC.hx hC.hb d  (k H locs ls a b c)
theorem x_imul (hC : Cx cx own cc nL fr lo rt h0) {x y : Int32} (d : decode cc pc = .ok (.imul, 1))  (k : X cx nL Q h (pc + 1) lv (.int (x * y) :: st)) : X cx nL Q h pc lv (.int y :: .int x :: st) := fun H locs ls a b c => lv_imul hC.hx hC.hb d  (k H locs ls a b c)
theorem x_iand (hC : Cx cx own cc nL fr lo rt h0) {x y : Int32} (d : decode cc pc = .ok (.iand, 1))  (k : X cx nL Q h (pc + 1) lv (.int (x &&& y) :: st)) : X cx nL Q h pc lv (.int y :: .int x :: st) := fun H locs ls a b c => lv_iand hC.hx hC.hb d  (k H locs ls a b c)
theorem x_ior (hC : Cx cx own cc nL fr lo rt h0) {x y : Int32} (d : decode cc pc = .ok (.ior, 1))  (k : X cx nL Q h (pc + 1) lv (.int (x ||| y) :: st)) : X cx nL Q h pc lv (.int y :: .int x :: st) := fun H locs ls a b c => lv_ior hC.hx hC.hb d  (k H locs ls a b c)
theorem x_idiv (hC : Cx cx own cc nL fr lo rt h0) {x y : Int32} (d : decode cc pc = .ok (.idiv, 1)) (hne : ¬ y = 0) (k : X cx nL Q h (pc + 1) lv (.int (x / y) :: st)) : X cx nL Q h pc lv (.int y :: .int x :: st) := fun H locs ls a b c => lv_idiv hC.hx hC.hb d hne (k H locs ls a b c)
theorem x_irem (hC : Cx cx own cc nL fr lo rt h0) {x y : Int32} (d : decode cc pc = .ok (.irem, 1)) (hne : ¬ y = 0) (k : X cx nL Q h (pc + 1) lv (.int (x - x / y * y) :: st)) : X cx nL Q h pc lv (.int y :: .int x :: st) := fun H locs ls a b c => lv_irem hC.hx hC.hb d hne (k H locs ls a b c)
theorem x_ladd (hC : Cx cx own cc nL fr lo rt h0) {x y : Int64} (d : decode cc pc = .ok (.ladd, 1))  (k : X cx nL Q h (pc + 1) lv (.long (x + y) :: st)) : X cx nL Q h pc lv (.long y :: .long x :: st) := fun H locs ls a b c => lv_ladd hC.hx hC.hb d  (k H locs ls a b c)
theorem x_lsub (hC : Cx cx own cc nL fr lo rt h0) {x y : Int64} (d : decode cc pc = .ok (.lsub, 1))  (k : X cx nL Q h (pc + 1) lv (.long (x - y) :: st)) : X cx nL Q h pc lv (.long y :: .long x :: st) := fun H locs ls a b c => lv_lsub hC.hx hC.hb d  (k H locs ls a b c)
theorem x_lmul (hC : Cx cx own cc nL fr lo rt h0) {x y : Int64} (d : decode cc pc = .ok (.lmul, 1))  (k : X cx nL Q h (pc + 1) lv (.long (x * y) :: st)) : X cx nL Q h pc lv (.long y :: .long x :: st) := fun H locs ls a b c => lv_lmul hC.hx hC.hb d  (k H locs ls a b c)
theorem x_land (hC : Cx cx own cc nL fr lo rt h0) {x y : Int64} (d : decode cc pc = .ok (.land, 1))  (k : X cx nL Q h (pc + 1) lv (.long (x &&& y) :: st)) : X cx nL Q h pc lv (.long y :: .long x :: st) := fun H locs ls a b c => lv_land hC.hx hC.hb d  (k H locs ls a b c)
theorem x_lor (hC : Cx cx own cc nL fr lo rt h0) {x y : Int64} (d : decode cc pc = .ok (.lor, 1))  (k : X cx nL Q h (pc + 1) lv (.long (x ||| y) :: st)) : X cx nL Q h pc lv (.long y :: .long x :: st) := fun H locs ls a b c => lv_lor hC.hx hC.hb d  (k H locs ls a b c)
theorem x_ldiv (hC : Cx cx own cc nL fr lo rt h0) {x y : Int64} (d : decode cc pc = .ok (.ldiv, 1)) (hne : ¬ y = 0) (k : X cx nL Q h (pc + 1) lv (.long (x / y) :: st)) : X cx nL Q h pc lv (.long y :: .long x :: st) := fun H locs ls a b c => lv_ldiv hC.hx hC.hb d hne (k H locs ls a b c)
theorem x_lrem (hC : Cx cx own cc nL fr lo rt h0) {x y : Int64} (d : decode cc pc = .ok (.lrem, 1)) (hne : ¬ y = 0) (k : X cx nL Q h (pc + 1) lv (.long (x - x / y * y) :: st)) : X cx nL Q h pc lv (.long y :: .long x :: st) := fun H locs ls a b c => lv_lrem hC.hx hC.hb d hne (k H locs ls a b c)
theorem x_ineg (hC : Cx cx own cc nL fr lo rt h0) {x : Int32} (d : decode cc pc = .ok (.ineg, 1))  (k : X cx nL Q h (pc + 1) lv (.int (-x) :: st)) : X cx nL Q h pc lv (.int x :: st) := fun H locs ls a b c => lv_ineg hC.hx hC.hb d  (k H locs ls a b c)
theorem x_goto (hC : Cx cx own cc nL fr lo rt h0) {off : Int} {tgt : Nat} (d : decode cc pc = .ok (.goto off, 3)) (ht : (pc : Int) + off = (tgt : Int)) (k : X cx nL Q h tgt lv (st)) : X cx nL Q h pc lv (st) := fun H locs ls a b c => lv_goto hC.hx hC.hb d ht (k H locs ls a b c)
theorem x_dup (hC : Cx cx own cc nL fr lo rt h0) {va : Value} (d : decode cc pc = .ok (.dup, 1)) (hva : va.category = 1) (k : X cx nL Q h (pc + 1) lv (va :: va :: st)) : X cx nL Q h pc lv (va :: st) := fun H locs ls a b c => lv_dup hC.hx hC.hb d hva (k H locs ls a b c)
theorem x_pop (hC : Cx cx own cc nL fr lo rt h0) {va : Value} (d : decode cc pc = .ok (.pop, 1)) (hva : va.category = 1) (k : X cx nL Q h (pc + 1) lv (st)) : X cx nL Q h pc lv (va :: st) := fun H locs ls a b c => lv_pop hC.hx hC.hb d hva (k H locs ls a b c)
theorem x_dup_x1 (hC : Cx cx own cc nL fr lo rt h0) {va vb : Value} (d : decode cc pc = .ok (.dup_x1, 1)) (hva : va.category = 1) (hvb : vb.category = 1) (k : X cx nL Q h (pc + 1) lv (va :: vb :: va :: st)) : X cx nL Q h pc lv (va :: vb :: st) := fun H locs ls a b c => lv_dup_x1 hC.hx hC.hb d hva hvb (k H locs ls a b c)
theorem x_dup2 (hC : Cx cx own cc nL fr lo rt h0) {va vb : Value} (d : decode cc pc = .ok (.dup2, 1)) (hva : va.category = 1) (hvb : vb.category = 1) (k : X cx nL Q h (pc + 1) lv (va :: vb :: va :: vb :: st)) : X cx nL Q h pc lv (va :: vb :: st) := fun H locs ls a b c => lv_dup2_11 hC.hx hC.hb d hva hvb (k H locs ls a b c)
theorem x_lcmp (hC : Cx cx own cc nL fr lo rt h0) {x y : Int64} (d : decode cc pc = .ok (.lcmp, 1))  (k : X cx nL Q h (pc + 1) lv (.int (lg_cmp x y) :: st)) : X cx nL Q h pc lv (.long y :: .long x :: st) := fun H locs ls a b c => W.lcmp hC.hx hC.hb d  (k H locs ls a b c)
theorem x_icmp_eq (hC : Cx cx own cc nL fr lo rt h0) {x y : Int32} {off : Int} {tgt : Nat} (d : decode cc pc = .ok (.if_icmp .eq off, 3)) (ht : (pc : Int) + off = (tgt : Int)) (kt : x = y → X cx nL Q h tgt lv st) (kf : ¬ (x = y) → X cx nL Q h (pc + 3) lv st) : X cx nL Q h pc lv (.int y :: .int x :: st) := fun H locs ls a b c => lv_icmp_eq hC.hx hC.hb d ht (fun q => kt q H locs ls a b c) (fun q => kf q H locs ls a b c)
theorem x_if_eq (hC : Cx cx own cc nL fr lo rt h0) {x : Int32} {off : Int} {tgt : Nat} (d : decode cc pc = .ok (.ifCond .eq off, 3)) (ht : (pc : Int) + off = (tgt : Int)) (kt : x = 0 → X cx nL Q h tgt lv st) (kf : ¬ (x = 0) → X cx nL Q h (pc + 3) lv st) : X cx nL Q h pc lv (.int x :: st) := fun H locs ls a b c => lv_if_eq hC.hx hC.hb d ht (fun q => kt q H locs ls a b c) (fun q => kf q H locs ls a b c)
theorem x_icmp_ne (hC : Cx cx own cc nL fr lo rt h0) {x y : Int32} {off : Int} {tgt : Nat} (d : decode cc pc = .ok (.if_icmp .ne off, 3)) (ht : (pc : Int) + off = (tgt : Int)) (kt : ¬ x = y → X cx nL Q h tgt lv st) (kf : x = y → X cx nL Q h (pc + 3) lv st) : X cx nL Q h pc lv (.int y :: .int x :: st) := fun H locs ls a b c => lv_icmp_ne hC.hx hC.hb d ht (fun q => kt q H locs ls a b c) (fun q => kf q H locs ls a b c)
theorem x_if_ne (hC : Cx cx own cc nL fr lo rt h0) {x : Int32} {off : Int} {tgt : Nat} (d : decode cc pc = .ok (.ifCond .ne off, 3)) (ht : (pc : Int) + off = (tgt : Int)) (kt : ¬ x = 0 → X cx nL Q h tgt lv st) (kf : x = 0 → X cx nL Q h (pc + 3) lv st) : X cx nL Q h pc lv (.int x :: st) := fun H locs ls a b c => lv_if_ne hC.hx hC.hb d ht (fun q => kt q H locs ls a b c) (fun q => kf q H locs ls a b c)
theorem x_icmp_lt (hC : Cx cx own cc nL fr lo rt h0) {x y : Int32} {off : Int} {tgt : Nat} (d : decode cc pc = .ok (.if_icmp .lt off, 3)) (ht : (pc : Int) + off = (tgt : Int)) (kt : x < y → X cx nL Q h tgt lv st) (kf : ¬ (x < y) → X cx nL Q h (pc + 3) lv st) : X cx nL Q h pc lv (.int y :: .int x :: st) := fun H locs ls a b c => lv_icmp_lt hC.hx hC.hb d ht (fun q => kt q H locs ls a b c) (fun q => kf q H locs ls a b c)
theorem x_if_lt (hC : Cx cx own cc nL fr lo rt h0) {x : Int32} {off : Int} {tgt : Nat} (d : decode cc pc = .ok (.ifCond .lt off, 3)) (ht : (pc : Int) + off = (tgt : Int)) (kt : x < 0 → X cx nL Q h tgt lv st) (kf : ¬ (x < 0) → X cx nL Q h (pc + 3) lv st) : X cx nL Q h pc lv (.int x :: st) := fun H locs ls a b c => lv_if_lt hC.hx hC.hb d ht (fun q => kt q H locs ls a b c) (fun q => kf q H locs ls a b c)
theorem x_icmp_ge (hC : Cx cx own cc nL fr lo rt h0) {x y : Int32} {off : Int} {tgt : Nat} (d : decode cc pc = .ok (.if_icmp .ge off, 3)) (ht : (pc : Int) + off = (tgt : Int)) (kt : y ≤ x → X cx nL Q h tgt lv st) (kf : ¬ (y ≤ x) → X cx nL Q h (pc + 3) lv st) : X cx nL Q h pc lv (.int y :: .int x :: st) := fun H locs ls a b c => lv_icmp_ge hC.hx hC.hb d ht (fun q => kt q H locs ls a b c) (fun q => kf q H locs ls a b c)
theorem x_if_ge (hC : Cx cx own cc nL fr lo rt h0) {x : Int32} {off : Int} {tgt : Nat} (d : decode cc pc = .ok (.ifCond .ge off, 3)) (ht : (pc : Int) + off = (tgt : Int)) (kt : 0 ≤ x → X cx nL Q h tgt lv st) (kf : ¬ (0 ≤ x) → X cx nL Q h (pc + 3) lv st) : X cx nL Q h pc lv (.int x :: st) := fun H locs ls a b c => lv_if_ge hC.hx hC.hb d ht (fun q => kt q H locs ls a b c) (fun q => kf q H locs ls a b c)
theorem x_icmp_gt (hC : Cx cx own cc nL fr lo rt h0) {x y : Int32} {off : Int} {tgt : Nat} (d : decode cc pc = .ok (.if_icmp .gt off, 3)) (ht : (pc : Int) + off = (tgt : Int)) (kt : y < x → X cx nL Q h tgt lv st) (kf : ¬ (y < x) → X cx nL Q h (pc + 3) lv st) : X cx nL Q h pc lv (.int y :: .int x :: st) := fun H locs ls a b c => lv_icmp_gt hC.hx hC.hb d ht (fun q => kt q H locs ls a b c) (fun q => kf q H locs ls a b c)
theorem x_if_gt (hC : Cx cx own cc nL fr lo rt h0) {x : Int32} {off : Int} {tgt : Nat} (d : decode cc pc = .ok (.ifCond .gt off, 3)) (ht : (pc : Int) + off = (tgt : Int)) (kt : 0 < x → X cx nL Q h tgt lv st) (kf : ¬ (0 < x) → X cx nL Q h (pc + 3) lv st) : X cx nL Q h pc lv (.int x :: st) := fun H locs ls a b c => lv_if_gt hC.hx hC.hb d ht (fun q => kt q H locs ls a b c) (fun q => kf q H locs ls a b c)
theorem x_icmp_le (hC : Cx cx own cc nL fr lo rt h0) {x y : Int32} {off : Int} {tgt : Nat} (d : decode cc pc = .ok (.if_icmp .le off, 3)) (ht : (pc : Int) + off = (tgt : Int)) (kt : x ≤ y → X cx nL Q h tgt lv st) (kf : ¬ (x ≤ y) → X cx nL Q h (pc + 3) lv st) : X cx nL Q h pc lv (.int y :: .int x :: st) := fun H locs ls a b c => lv_icmp_le hC.hx hC.hb d ht (fun q => kt q H locs ls a b c) (fun q => kf q H locs ls a b c)
theorem x_if_le (hC : Cx cx own cc nL fr lo rt h0) {x : Int32} {off : Int} {tgt : Nat} (d : decode cc pc = .ok (.ifCond .le off, 3)) (ht : (pc : Int) + off = (tgt : Int)) (kt : x ≤ 0 → X cx nL Q h tgt lv st) (kf : ¬ (x ≤ 0) → X cx nL Q h (pc + 3) lv st) : X cx nL Q h pc lv (.int x :: st) := fun H locs ls a b c => lv_if_le hC.hx hC.hb d ht (fun q => kt q H locs ls a b c) (fun q => kf q H locs ls a b c)
theorem x_aload_n (hC : Cx cx own cc nL fr lo rt h0) {k : Fin 4} {v : Nat} (d : decode cc pc = .ok (.aload_n k, 1)) (j : Nat) (hj : lv[j]? = some ((k : Nat), .ref v)) (kk : X cx nL Q h (pc + 1) lv (.ref v :: st)) : X cx nL Q h pc lv st := fun H locs ls a b c => lv_aload_n hC.hx hC.hb d rfl (lv_at c j hj) (kk H locs ls a b c)
theorem x_aload (hC : Cx cx own cc nL fr lo rt h0) {i : Nat} {v : Nat} (d : decode cc pc = .ok (.aload i, 2)) (j : Nat) (hj : lv[j]? = some (i, .ref v)) (kk : X cx nL Q h (pc + 2) lv (.ref v :: st)) : X cx nL Q h pc lv st := fun H locs ls a b c => lv_aload hC.hx hC.hb d (lv_at c j hj) (kk H locs ls a b c)
theorem x_astore_n (hC : Cx cx own cc nL fr lo rt h0) {k : Fin 4} {v : Nat} (d : decode cc pc = .ok (.astore_n k, 1)) (hn : (k : Nat) < nL) (ks : List Nat) (hl : lv_pick (((k : Nat), Value.ref v) :: lv.filter (fun q => !(q.1 == (k : Nat)) && !(q.1 + 1 == (k : Nat) && q.2.category == 2))) ks = lv') (kk : X cx nL Q h (pc + 1) lv' st) : X cx nL Q h pc lv (.ref v :: st) := fun H locs ls a b c => lv_astore_n hC.hx hC.hb d rfl c hn rfl (fun ls' c' => kk H locs ls' a b (lv_sub c' ks hl))
theorem x_astore (hC : Cx cx own cc nL fr lo rt h0) {i : Nat} {v : Nat} (d : decode cc pc = .ok (.astore i, 2)) (hn : i < nL) (ks : List Nat) (hl : lv_pick ((i, Value.ref v) :: lv.filter (fun q => !(q.1 == i) && !(q.1 + 1 == i && q.2.category == 2))) ks = lv') (kk : X cx nL Q h (pc + 2) lv' st) : X cx nL Q h pc lv (.ref v :: st) := fun H locs ls a b c => lv_astore hC.hx hC.hb d c hn rfl (fun ls' c' => kk H locs ls' a b (lv_sub c' ks hl))
theorem x_ishl (hC : Cx cx own cc nL fr lo rt h0) {x y : Int32} (d : decode cc pc = .ok (.ishl, 1))  (k : X cx nL Q h (pc + 1) lv (.int (x <<< (y &&& 31)) :: st)) : X cx nL Q h pc lv (.int y :: .int x :: st) := fun H locs ls a b c => lv_ishl hC.hx hC.hb d  (k H locs ls a b c)
theorem x_ishr (hC : Cx cx own cc nL fr lo rt h0) {x y : Int32} (d : decode cc pc = .ok (.ishr, 1))  (k : X cx nL Q h (pc + 1) lv (.int (x >>> (y &&& 31)) :: st)) : X cx nL Q h pc lv (.int y :: .int x :: st) := fun H locs ls a b c => lv_ishr hC.hx hC.hb d  (k H locs ls a b c)
def iushr (x y : Int32) : Int32 := (x.toUInt32 >>> (y.toUInt32 &&& Int32.toUInt32 31)).toInt32
def lshl (x : Int64) (y : Int32) : Int64 := x <<< (y.toInt64 &&& 63)
def lshr (x : Int64) (y : Int32) : Int64 := x >>> (y.toInt64 &&& 63)
def i2c (x : Int32) : Int32 := (x.toUInt32 % 65536).toInt32
theorem x_iushr (hC : Cx cx own cc nL fr lo rt h0) {x y : Int32} (d : decode cc pc = .ok (.iushr, 1))  (k : X cx nL Q h (pc + 1) lv (.int (iushr x y) :: st)) : X cx nL Q h pc lv (.int y :: .int x :: st) := fun H locs ls a b c => lv_iushr hC.hx hC.hb d rfl (k H locs ls a b c)
theorem x_lshl (hC : Cx cx own cc nL fr lo rt h0) {x : Int64} {y : Int32} (d : decode cc pc = .ok (.lshl, 1))  (k : X cx nL Q h (pc + 1) lv (.long (lshl x y) :: st)) : X cx nL Q h pc lv (.int y :: .long x :: st) := fun H locs ls a b c => lv_lshl hC.hx hC.hb d rfl (k H locs ls a b c)
theorem x_lshr (hC : Cx cx own cc nL fr lo rt h0) {x : Int64} {y : Int32} (d : decode cc pc = .ok (.lshr, 1))  (k : X cx nL Q h (pc + 1) lv (.long (lshr x y) :: st)) : X cx nL Q h pc lv (.int y :: .long x :: st) := fun H locs ls a b c => lv_lshr hC.hx hC.hb d rfl (k H locs ls a b c)
theorem x_i2l (hC : Cx cx own cc nL fr lo rt h0) {x : Int32} (d : decode cc pc = .ok (.i2l, 1))  (k : X cx nL Q h (pc + 1) lv (.long x.toInt64 :: st)) : X cx nL Q h pc lv (.int x :: st) := fun H locs ls a b c => lv_i2l hC.hx hC.hb d rfl (k H locs ls a b c)
theorem x_l2i (hC : Cx cx own cc nL fr lo rt h0) {x : Int64} (d : decode cc pc = .ok (.l2i, 1))  (k : X cx nL Q h (pc + 1) lv (.int x.toInt32 :: st)) : X cx nL Q h pc lv (.long x :: st) := fun H locs ls a b c => lv_l2i hC.hx hC.hb d rfl (k H locs ls a b c)
theorem x_i2b (hC : Cx cx own cc nL fr lo rt h0) {x : Int32} (d : decode cc pc = .ok (.i2b, 1))  (k : X cx nL Q h (pc + 1) lv (.int x.toInt8.toInt32 :: st)) : X cx nL Q h pc lv (.int x :: st) := fun H locs ls a b c => lv_i2b hC.hx hC.hb d rfl (k H locs ls a b c)
theorem x_i2s (hC : Cx cx own cc nL fr lo rt h0) {x : Int32} (d : decode cc pc = .ok (.i2s, 1))  (k : X cx nL Q h (pc + 1) lv (.int x.toInt16.toInt32 :: st)) : X cx nL Q h pc lv (.int x :: st) := fun H locs ls a b c => lv_i2s hC.hx hC.hb d rfl (k H locs ls a b c)
theorem x_i2c (hC : Cx cx own cc nL fr lo rt h0) {x : Int32} (d : decode cc pc = .ok (.i2c, 1))  (k : X cx nL Q h (pc + 1) lv (.int (i2c x) :: st)) : X cx nL Q h pc lv (.int x :: st) := fun H locs ls a b c => lv_i2c hC.hx hC.hb d rfl (k H locs ls a b c)
theorem x_null (hC : Cx cx own cc nL fr lo rt h0)  (d : decode cc pc = .ok (.aconst_null, 1))  (k : X cx nL Q h (pc + 1) lv (.null :: st)) : X cx nL Q h pc lv (st) := fun H locs ls a b c => lv_null hC.hx hC.hb d  (k H locs ls a b c)
theorem x_ifnull (hC : Cx cx own cc nL fr lo rt h0) {x : Nat} {off : Int} (d : decode cc pc = .ok (.ifnull off, 3))  (k : X cx nL Q h (pc + 3) lv (st)) : X cx nL Q h pc lv (.ref x :: st) := fun H locs ls a b c => lv_ifnull hC.hx hC.hb d  (k H locs ls a b c)
theorem x_ifnullN (hC : Cx cx own cc nL fr lo rt h0) {off : Int} {tgt : Nat} (d : decode cc pc = .ok (.ifnull off, 3)) (ht : (pc : Int) + off = (tgt : Int)) (k : X cx nL Q h tgt lv (st)) : X cx nL Q h pc lv (.null :: st) := fun H locs ls a b c => lv_ifnullN hC.hx hC.hb d ht (k H locs ls a b c)
theorem x_ifnonnull (hC : Cx cx own cc nL fr lo rt h0) {x : Nat} {off : Int} {tgt : Nat} (d : decode cc pc = .ok (.ifnonnull off, 3)) (ht : (pc : Int) + off = (tgt : Int)) (k : X cx nL Q h tgt lv (st)) : X cx nL Q h pc lv (.ref x :: st) := fun H locs ls a b c => lv_ifnonnull hC.hx hC.hb d ht (k H locs ls a b c)
theorem x_ifnonnullN (hC : Cx cx own cc nL fr lo rt h0) {off : Int} (d : decode cc pc = .ok (.ifnonnull off, 3))  (k : X cx nL Q h (pc + 3) lv (st)) : X cx nL Q h pc lv (.null :: st) := fun H locs ls a b c => lv_ifnonnullN hC.hx hC.hb d  (k H locs ls a b c)
theorem x_tableIn (hC : Cx cx own cc nL fr lo rt h0) {dflt lo1 hi : Int} {offs : Array Int} {len : Nat} {v : Int32} {off : Int} {tgt : Nat} (d : decode cc pc = .ok (.tableswitch dflt lo1 hi offs, len)) (h1 : ¬ v.toInt < lo1) (h2 : ¬ hi < v.toInt) (ho : offs[(v.toInt - lo1).toNat]? = some off) (ht : (pc : Int) + off = (tgt : Int)) (k : X cx nL Q h tgt lv st) : X cx nL Q h pc lv (.int v :: st) := fun H locs ls a b c => lv_tableIn hC.hx hC.hb d h1 h2 ho ht (k H locs ls a b c)
theorem x_tableOut (hC : Cx cx own cc nL fr lo rt h0) {dflt lo1 hi : Int} {offs : Array Int} {len : Nat} {v : Int32} {tgt : Nat} (d : decode cc pc = .ok (.tableswitch dflt lo1 hi offs, len)) (h1 : v.toInt < lo1 ∨ hi < v.toInt) (ht : (pc : Int) + dflt = (tgt : Int)) (k : X cx nL Q h tgt lv st) : X cx nL Q h pc lv (.int v :: st) := fun H locs ls a b c => lv_tableOut hC.hx hC.hb d h1 ht (k H locs ls a b c)
theorem x_lookup (hC : Cx cx own cc nL fr lo rt h0) {dflt : Int} {ps : Array (Int × Int)} {len : Nat} {v : Int32} {off : Int} {tgt : Nat} (d : decode cc pc = .ok (.lookupswitch dflt ps, len)) (hp : (ps.toList.zip (ps.toList.drop 1)).all (fun (a, next) => a.1 < next.1) = true) (ho : Op.lookupswitch.offset ps.toList dflt v.toInt = off) (ht : (pc : Int) + off = (tgt : Int)) (k : X cx nL Q h tgt lv st) : X cx nL Q h pc lv (.int v :: st) := fun H locs ls a b c => lv_lookup hC.hx hC.hb d hp ho ht (k H locs ls a b c)
end XR
