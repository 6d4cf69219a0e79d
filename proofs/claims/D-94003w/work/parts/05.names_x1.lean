/-! PumpCrossing -/
set_option maxRecDepth 100000
def RX1 : String := "PumpCrossing"
def TX1 : u_T := fun k => match k with
  | 0 => ("PumpCrossing", "now", "LPumpCrossing$Crossing;", false)
  | 1 => ("PumpCrossing", "images", "[LPumpCrossing$Crossing;", true)
  | 2 => ("PumpCrossing", "tape", "[B", true)
  | 3 => ("PumpCrossing", "taped", "I", false)
  | 4 => ("PumpCrossing", "faultKind", "I", false)
  | 5 => ("PumpCrossing", "faultAt", "I", false)
  | 6 => ("PumpCrossing", "running", "LPumpCrossing$Run;", true)
  | 7 => ("PumpCrossing", "rows", "LPumpCrossing$Told;", true)
  | 8 => ("PumpCrossing", "facts", "[I", true)
  | 9 => ("PumpCrossing", "next", "[I", true)
  | 10 => ("PumpCrossing", "prices", "[I", true)
  | 11 => ("PumpCrossing", "up", "J", false)
  | 12 => ("PumpCrossing", "low", "J", false)
  | 13 => ("PumpCrossing", "gainA", "[[I", true)
  | 14 => ("PumpCrossing", "gainB", "[[I", true)
  | 15 => ("PumpCrossing", "chosen", "[[I", true)
  | 16 => ("PumpCrossing", "mine", "[[J", true)
  | 17 => ("PumpCrossing", "theirs", "[[J", true)
  | 18 => ("PumpCrossing", "learners", "LPumpCrossing$Learners;", true)
  | 19 => ("PumpCrossing", "trays", "[LPumpCrossing$Tray;", true)
  | _ => ("PumpCrossing", "paid", "[[I", true)
def tyX1 : Nat → FieldType := fun k => match k with
  | 0 => .object "PumpCrossing$Crossing"
  | 1 => .array (.object "PumpCrossing$Crossing")
  | 2 => .array .byte
  | 3 => .int
  | 4 => .int
  | 5 => .int
  | 6 => .object "PumpCrossing$Run"
  | 7 => .object "PumpCrossing$Told"
  | 8 => .array .int
  | 9 => .array .int
  | 10 => .array .int
  | 11 => .long
  | 12 => .long
  | 13 => .array (.array .int)
  | 14 => .array (.array .int)
  | 15 => .array (.array .int)
  | 16 => .array (.array .long)
  | 17 => .array (.array .long)
  | 18 => .object "PumpCrossing$Learners"
  | 19 => .array (.object "PumpCrossing$Tray")
  | _ => .array (.array .int)
abbrev wsX10 : List Cond := u_ws RX1 TX1 21
set_option maxRecDepth 100000 in
theorem nmX1 : ∀ a, a < 21 → ∀ b, b < 21 → a ≠ b → (TX1 a).2.1 ≠ (TX1 b).2.1 := by decide +kernel
set_option maxRecDepth 100000 in
theorem tyX1_ok : ∀ k, k < 21 → parseFieldDescriptor (TX1 k).2.2.1 = some (tyX1 k) := by decide +kernel
abbrev cX1_init : ByteArray := prog_1_method_7_code
def yX1_init : MethodName := ⟨RX1, "<init>", "()V"⟩
def dkwX1_init_9 : List UInt8 := [197, 0, 66, 2, 181, 0, 99, 177]
abbrev dktX1_init_9 : List UInt8 := dkwX1_init_9 ++ []
def dkwX1_init_8 : List UInt8 := [183, 0, 94, 83, 89, 6, 187, 0, 92, 89, 183, 0, 94, 83, 181, 0, 95, 42, 16, 29, 16, 13]
abbrev dktX1_init_8 : List UInt8 := dkwX1_init_8 ++ dktX1_init_9
def dkwX1_init_7 : List UInt8 := [187, 0, 92, 89, 183, 0, 94, 83, 89, 4, 187, 0, 92, 89, 183, 0, 94, 83, 89, 5, 187, 0, 92, 89]
abbrev dktX1_init_7 : List UInt8 := dkwX1_init_7 ++ dktX1_init_8
def dkwX1_init_6 : List UInt8 := [181, 0, 82, 42, 187, 0, 85, 89, 42, 183, 0, 87, 181, 0, 88, 42, 7, 189, 0, 92, 89, 3]
abbrev dktX1_init_6 : List UInt8 := dkwX1_init_6 ++ dktX1_init_7
def dkwX1_init_5 : List UInt8 := [181, 0, 74, 42, 16, 41, 16, 8, 197, 0, 77, 2, 181, 0, 79, 42, 16, 41, 16, 8, 197, 0, 77, 2]
abbrev dktX1_init_5 : List UInt8 := dkwX1_init_5 ++ dktX1_init_6
def dkwX1_init_4 : List UInt8 := [181, 0, 68, 42, 16, 8, 16, 8, 197, 0, 66, 2, 181, 0, 71, 42, 16, 41, 16, 8, 197, 0, 66, 2]
abbrev dktX1_init_4 : List UInt8 := dkwX1_init_4 ++ dktX1_init_5
def dkwX1_init_3 : List UInt8 := [7, 188, 10, 181, 0, 60, 42, 7, 188, 10, 181, 0, 63, 42, 16, 8, 16, 8, 197, 0, 66, 2]
abbrev dktX1_init_3 : List UInt8 := dkwX1_init_3 ++ dktX1_init_4
def dkwX1_init_2 : List UInt8 := [181, 0, 45, 42, 187, 0, 49, 89, 42, 183, 0, 51, 181, 0, 52, 42, 16, 9, 188, 10, 181, 0, 56, 42]
abbrev dktX1_init_2 : List UInt8 := dkwX1_init_2 ++ dktX1_init_3
def dkwX1_init_1 : List UInt8 := [17, 1, 144, 188, 8, 181, 0, 32, 42, 2, 181, 0, 36, 42, 187, 0, 40, 89, 42, 183, 0, 42]
abbrev dktX1_init_1 : List UInt8 := dkwX1_init_1 ++ dktX1_init_2
def dkwX1_init_0 : List UInt8 := [42, 183, 0, 16, 42, 187, 0, 19, 89, 183, 0, 21, 181, 0, 22, 42, 6, 189, 0, 19, 181, 0, 28, 42]
abbrev dktX1_init_0 : List UInt8 := dkwX1_init_0 ++ dktX1_init_1
theorem dksX1_init_0 : cX1_init.data.toList.drop 0 = dktX1_init_0 := by decide +kernel
theorem dksX1_init_1 : cX1_init.data.toList.drop 24 = dktX1_init_1 := dk_seg dksX1_init_0 24 rfl rfl
theorem dksX1_init_2 : cX1_init.data.toList.drop 46 = dktX1_init_2 := dk_seg dksX1_init_1 22 rfl rfl
theorem dksX1_init_3 : cX1_init.data.toList.drop 70 = dktX1_init_3 := dk_seg dksX1_init_2 24 rfl rfl
theorem dksX1_init_4 : cX1_init.data.toList.drop 92 = dktX1_init_4 := dk_seg dksX1_init_3 22 rfl rfl
theorem dksX1_init_5 : cX1_init.data.toList.drop 116 = dktX1_init_5 := dk_seg dksX1_init_4 24 rfl rfl
theorem dksX1_init_6 : cX1_init.data.toList.drop 140 = dktX1_init_6 := dk_seg dksX1_init_5 24 rfl rfl
theorem dksX1_init_7 : cX1_init.data.toList.drop 162 = dktX1_init_7 := dk_seg dksX1_init_6 22 rfl rfl
theorem dksX1_init_8 : cX1_init.data.toList.drop 186 = dktX1_init_8 := dk_seg dksX1_init_7 24 rfl rfl
theorem dksX1_init_9 : cX1_init.data.toList.drop 208 = dktX1_init_9 := dk_seg dksX1_init_8 22 rfl rfl
theorem dX1_init_0 : decode cX1_init 0 = .ok (.aload_n 0, 1) := dk_42 (dk_at dksX1_init_0 0 rfl rfl)
theorem dX1_init_1 : decode cX1_init 1 = .ok (.invokespecial 16, 3) := dk_183 0 16 (dk_at dksX1_init_0 1 rfl rfl)
theorem dX1_init_4 : decode cX1_init 4 = .ok (.aload_n 0, 1) := dk_42 (dk_at dksX1_init_0 4 rfl rfl)
theorem dX1_init_5 : decode cX1_init 5 = .ok (.new 19, 3) := dk_187 0 19 (dk_at dksX1_init_0 5 rfl rfl)
theorem dX1_init_8 : decode cX1_init 8 = .ok (.dup, 1) := dk_89 (dk_at dksX1_init_0 8 rfl rfl)
theorem dX1_init_9 : decode cX1_init 9 = .ok (.invokespecial 21, 3) := dk_183 0 21 (dk_at dksX1_init_0 9 rfl rfl)
theorem dX1_init_12 : decode cX1_init 12 = .ok (.putfield 22, 3) := dk_181 0 22 (dk_at dksX1_init_0 12 rfl rfl)
theorem dX1_init_15 : decode cX1_init 15 = .ok (.aload_n 0, 1) := dk_42 (dk_at dksX1_init_0 15 rfl rfl)
theorem dX1_init_16 : decode cX1_init 16 = .ok (.iconst 3, 1) := dk_6 (dk_at dksX1_init_0 16 rfl rfl)
theorem dX1_init_17 : decode cX1_init 17 = .ok (.anewarray 19, 3) := dk_189 0 19 (dk_at dksX1_init_0 17 rfl rfl)
theorem dX1_init_20 : decode cX1_init 20 = .ok (.putfield 28, 3) := dk_181 0 28 (dk_at dksX1_init_0 20 rfl rfl)
theorem dX1_init_23 : decode cX1_init 23 = .ok (.aload_n 0, 1) := dk_42 (dk_at dksX1_init_0 23 rfl rfl)
theorem dX1_init_24 : decode cX1_init 24 = .ok (.sipush 400, 3) := dk_17 1 144 (dk_at dksX1_init_1 0 rfl rfl)
theorem dX1_init_27 : decode cX1_init 27 = .ok (.newarray .byte, 2) := dk_188_8 (dk_at dksX1_init_1 3 rfl rfl)
theorem dX1_init_29 : decode cX1_init 29 = .ok (.putfield 32, 3) := dk_181 0 32 (dk_at dksX1_init_1 5 rfl rfl)
theorem dX1_init_32 : decode cX1_init 32 = .ok (.aload_n 0, 1) := dk_42 (dk_at dksX1_init_1 8 rfl rfl)
theorem dX1_init_33 : decode cX1_init 33 = .ok (.iconst (-1), 1) := dk_2 (dk_at dksX1_init_1 9 rfl rfl)
theorem dX1_init_34 : decode cX1_init 34 = .ok (.putfield 36, 3) := dk_181 0 36 (dk_at dksX1_init_1 10 rfl rfl)
theorem dX1_init_37 : decode cX1_init 37 = .ok (.aload_n 0, 1) := dk_42 (dk_at dksX1_init_1 13 rfl rfl)
theorem dX1_init_38 : decode cX1_init 38 = .ok (.new 40, 3) := dk_187 0 40 (dk_at dksX1_init_1 14 rfl rfl)
theorem dX1_init_41 : decode cX1_init 41 = .ok (.dup, 1) := dk_89 (dk_at dksX1_init_1 17 rfl rfl)
theorem dX1_init_42 : decode cX1_init 42 = .ok (.aload_n 0, 1) := dk_42 (dk_at dksX1_init_1 18 rfl rfl)
theorem dX1_init_43 : decode cX1_init 43 = .ok (.invokespecial 42, 3) := dk_183 0 42 (dk_at dksX1_init_1 19 rfl rfl)
theorem dX1_init_46 : decode cX1_init 46 = .ok (.putfield 45, 3) := dk_181 0 45 (dk_at dksX1_init_2 0 rfl rfl)
theorem dX1_init_49 : decode cX1_init 49 = .ok (.aload_n 0, 1) := dk_42 (dk_at dksX1_init_2 3 rfl rfl)
theorem dX1_init_50 : decode cX1_init 50 = .ok (.new 49, 3) := dk_187 0 49 (dk_at dksX1_init_2 4 rfl rfl)
theorem dX1_init_53 : decode cX1_init 53 = .ok (.dup, 1) := dk_89 (dk_at dksX1_init_2 7 rfl rfl)
theorem dX1_init_54 : decode cX1_init 54 = .ok (.aload_n 0, 1) := dk_42 (dk_at dksX1_init_2 8 rfl rfl)
theorem dX1_init_55 : decode cX1_init 55 = .ok (.invokespecial 51, 3) := dk_183 0 51 (dk_at dksX1_init_2 9 rfl rfl)
theorem dX1_init_58 : decode cX1_init 58 = .ok (.putfield 52, 3) := dk_181 0 52 (dk_at dksX1_init_2 12 rfl rfl)
theorem dX1_init_61 : decode cX1_init 61 = .ok (.aload_n 0, 1) := dk_42 (dk_at dksX1_init_2 15 rfl rfl)
theorem dX1_init_62 : decode cX1_init 62 = .ok (.bipush 9, 2) := dk_16 9 (dk_at dksX1_init_2 16 rfl rfl)
theorem dX1_init_64 : decode cX1_init 64 = .ok (.newarray .int, 2) := dk_188_10 (dk_at dksX1_init_2 18 rfl rfl)
theorem dX1_init_66 : decode cX1_init 66 = .ok (.putfield 56, 3) := dk_181 0 56 (dk_at dksX1_init_2 20 rfl rfl)
theorem dX1_init_69 : decode cX1_init 69 = .ok (.aload_n 0, 1) := dk_42 (dk_at dksX1_init_2 23 rfl rfl)
theorem dX1_init_70 : decode cX1_init 70 = .ok (.iconst 4, 1) := dk_7 (dk_at dksX1_init_3 0 rfl rfl)
theorem dX1_init_71 : decode cX1_init 71 = .ok (.newarray .int, 2) := dk_188_10 (dk_at dksX1_init_3 1 rfl rfl)
theorem dX1_init_73 : decode cX1_init 73 = .ok (.putfield 60, 3) := dk_181 0 60 (dk_at dksX1_init_3 3 rfl rfl)
theorem dX1_init_76 : decode cX1_init 76 = .ok (.aload_n 0, 1) := dk_42 (dk_at dksX1_init_3 6 rfl rfl)
theorem dX1_init_77 : decode cX1_init 77 = .ok (.iconst 4, 1) := dk_7 (dk_at dksX1_init_3 7 rfl rfl)
theorem dX1_init_78 : decode cX1_init 78 = .ok (.newarray .int, 2) := dk_188_10 (dk_at dksX1_init_3 8 rfl rfl)
theorem dX1_init_80 : decode cX1_init 80 = .ok (.putfield 63, 3) := dk_181 0 63 (dk_at dksX1_init_3 10 rfl rfl)
theorem dX1_init_83 : decode cX1_init 83 = .ok (.aload_n 0, 1) := dk_42 (dk_at dksX1_init_3 13 rfl rfl)
theorem dX1_init_84 : decode cX1_init 84 = .ok (.bipush 8, 2) := dk_16 8 (dk_at dksX1_init_3 14 rfl rfl)
theorem dX1_init_86 : decode cX1_init 86 = .ok (.bipush 8, 2) := dk_16 8 (dk_at dksX1_init_3 16 rfl rfl)
theorem dX1_init_88 : decode cX1_init 88 = .ok (.multianewarray 66 2, 4) := by decide +kernel
theorem dX1_init_92 : decode cX1_init 92 = .ok (.putfield 68, 3) := dk_181 0 68 (dk_at dksX1_init_4 0 rfl rfl)
theorem dX1_init_95 : decode cX1_init 95 = .ok (.aload_n 0, 1) := dk_42 (dk_at dksX1_init_4 3 rfl rfl)
theorem dX1_init_96 : decode cX1_init 96 = .ok (.bipush 8, 2) := dk_16 8 (dk_at dksX1_init_4 4 rfl rfl)
theorem dX1_init_98 : decode cX1_init 98 = .ok (.bipush 8, 2) := dk_16 8 (dk_at dksX1_init_4 6 rfl rfl)
theorem dX1_init_100 : decode cX1_init 100 = .ok (.multianewarray 66 2, 4) := by decide +kernel
theorem dX1_init_104 : decode cX1_init 104 = .ok (.putfield 71, 3) := dk_181 0 71 (dk_at dksX1_init_4 12 rfl rfl)
theorem dX1_init_107 : decode cX1_init 107 = .ok (.aload_n 0, 1) := dk_42 (dk_at dksX1_init_4 15 rfl rfl)
theorem dX1_init_108 : decode cX1_init 108 = .ok (.bipush 41, 2) := dk_16 41 (dk_at dksX1_init_4 16 rfl rfl)
theorem dX1_init_110 : decode cX1_init 110 = .ok (.bipush 8, 2) := dk_16 8 (dk_at dksX1_init_4 18 rfl rfl)
theorem dX1_init_112 : decode cX1_init 112 = .ok (.multianewarray 66 2, 4) := by decide +kernel
theorem dX1_init_116 : decode cX1_init 116 = .ok (.putfield 74, 3) := dk_181 0 74 (dk_at dksX1_init_5 0 rfl rfl)
theorem dX1_init_119 : decode cX1_init 119 = .ok (.aload_n 0, 1) := dk_42 (dk_at dksX1_init_5 3 rfl rfl)
theorem dX1_init_120 : decode cX1_init 120 = .ok (.bipush 41, 2) := dk_16 41 (dk_at dksX1_init_5 4 rfl rfl)
theorem dX1_init_122 : decode cX1_init 122 = .ok (.bipush 8, 2) := dk_16 8 (dk_at dksX1_init_5 6 rfl rfl)
theorem dX1_init_124 : decode cX1_init 124 = .ok (.multianewarray 77 2, 4) := by decide +kernel
theorem dX1_init_128 : decode cX1_init 128 = .ok (.putfield 79, 3) := dk_181 0 79 (dk_at dksX1_init_5 12 rfl rfl)
theorem dX1_init_131 : decode cX1_init 131 = .ok (.aload_n 0, 1) := dk_42 (dk_at dksX1_init_5 15 rfl rfl)
theorem dX1_init_132 : decode cX1_init 132 = .ok (.bipush 41, 2) := dk_16 41 (dk_at dksX1_init_5 16 rfl rfl)
theorem dX1_init_134 : decode cX1_init 134 = .ok (.bipush 8, 2) := dk_16 8 (dk_at dksX1_init_5 18 rfl rfl)
theorem dX1_init_136 : decode cX1_init 136 = .ok (.multianewarray 77 2, 4) := by decide +kernel
theorem dX1_init_140 : decode cX1_init 140 = .ok (.putfield 82, 3) := dk_181 0 82 (dk_at dksX1_init_6 0 rfl rfl)
theorem dX1_init_143 : decode cX1_init 143 = .ok (.aload_n 0, 1) := dk_42 (dk_at dksX1_init_6 3 rfl rfl)
theorem dX1_init_144 : decode cX1_init 144 = .ok (.new 85, 3) := dk_187 0 85 (dk_at dksX1_init_6 4 rfl rfl)
theorem dX1_init_147 : decode cX1_init 147 = .ok (.dup, 1) := dk_89 (dk_at dksX1_init_6 7 rfl rfl)
theorem dX1_init_148 : decode cX1_init 148 = .ok (.aload_n 0, 1) := dk_42 (dk_at dksX1_init_6 8 rfl rfl)
theorem dX1_init_149 : decode cX1_init 149 = .ok (.invokespecial 87, 3) := dk_183 0 87 (dk_at dksX1_init_6 9 rfl rfl)
theorem dX1_init_152 : decode cX1_init 152 = .ok (.putfield 88, 3) := dk_181 0 88 (dk_at dksX1_init_6 12 rfl rfl)
theorem dX1_init_155 : decode cX1_init 155 = .ok (.aload_n 0, 1) := dk_42 (dk_at dksX1_init_6 15 rfl rfl)
theorem dX1_init_156 : decode cX1_init 156 = .ok (.iconst 4, 1) := dk_7 (dk_at dksX1_init_6 16 rfl rfl)
theorem dX1_init_157 : decode cX1_init 157 = .ok (.anewarray 92, 3) := dk_189 0 92 (dk_at dksX1_init_6 17 rfl rfl)
theorem dX1_init_160 : decode cX1_init 160 = .ok (.dup, 1) := dk_89 (dk_at dksX1_init_6 20 rfl rfl)
theorem dX1_init_161 : decode cX1_init 161 = .ok (.iconst 0, 1) := dk_3 (dk_at dksX1_init_6 21 rfl rfl)
theorem dX1_init_162 : decode cX1_init 162 = .ok (.new 92, 3) := dk_187 0 92 (dk_at dksX1_init_7 0 rfl rfl)
theorem dX1_init_165 : decode cX1_init 165 = .ok (.dup, 1) := dk_89 (dk_at dksX1_init_7 3 rfl rfl)
theorem dX1_init_166 : decode cX1_init 166 = .ok (.invokespecial 94, 3) := dk_183 0 94 (dk_at dksX1_init_7 4 rfl rfl)
theorem dX1_init_169 : decode cX1_init 169 = .ok (.aastore, 1) := dk_83 (dk_at dksX1_init_7 7 rfl rfl)
theorem dX1_init_170 : decode cX1_init 170 = .ok (.dup, 1) := dk_89 (dk_at dksX1_init_7 8 rfl rfl)
theorem dX1_init_171 : decode cX1_init 171 = .ok (.iconst 1, 1) := dk_4 (dk_at dksX1_init_7 9 rfl rfl)
theorem dX1_init_172 : decode cX1_init 172 = .ok (.new 92, 3) := dk_187 0 92 (dk_at dksX1_init_7 10 rfl rfl)
theorem dX1_init_175 : decode cX1_init 175 = .ok (.dup, 1) := dk_89 (dk_at dksX1_init_7 13 rfl rfl)
theorem dX1_init_176 : decode cX1_init 176 = .ok (.invokespecial 94, 3) := dk_183 0 94 (dk_at dksX1_init_7 14 rfl rfl)
theorem dX1_init_179 : decode cX1_init 179 = .ok (.aastore, 1) := dk_83 (dk_at dksX1_init_7 17 rfl rfl)
theorem dX1_init_180 : decode cX1_init 180 = .ok (.dup, 1) := dk_89 (dk_at dksX1_init_7 18 rfl rfl)
theorem dX1_init_181 : decode cX1_init 181 = .ok (.iconst 2, 1) := dk_5 (dk_at dksX1_init_7 19 rfl rfl)
theorem dX1_init_182 : decode cX1_init 182 = .ok (.new 92, 3) := dk_187 0 92 (dk_at dksX1_init_7 20 rfl rfl)
theorem dX1_init_185 : decode cX1_init 185 = .ok (.dup, 1) := dk_89 (dk_at dksX1_init_7 23 rfl rfl)
theorem dX1_init_186 : decode cX1_init 186 = .ok (.invokespecial 94, 3) := dk_183 0 94 (dk_at dksX1_init_8 0 rfl rfl)
theorem dX1_init_189 : decode cX1_init 189 = .ok (.aastore, 1) := dk_83 (dk_at dksX1_init_8 3 rfl rfl)
theorem dX1_init_190 : decode cX1_init 190 = .ok (.dup, 1) := dk_89 (dk_at dksX1_init_8 4 rfl rfl)
theorem dX1_init_191 : decode cX1_init 191 = .ok (.iconst 3, 1) := dk_6 (dk_at dksX1_init_8 5 rfl rfl)
theorem dX1_init_192 : decode cX1_init 192 = .ok (.new 92, 3) := dk_187 0 92 (dk_at dksX1_init_8 6 rfl rfl)
theorem dX1_init_195 : decode cX1_init 195 = .ok (.dup, 1) := dk_89 (dk_at dksX1_init_8 9 rfl rfl)
theorem dX1_init_196 : decode cX1_init 196 = .ok (.invokespecial 94, 3) := dk_183 0 94 (dk_at dksX1_init_8 10 rfl rfl)
theorem dX1_init_199 : decode cX1_init 199 = .ok (.aastore, 1) := dk_83 (dk_at dksX1_init_8 13 rfl rfl)
theorem dX1_init_200 : decode cX1_init 200 = .ok (.putfield 95, 3) := dk_181 0 95 (dk_at dksX1_init_8 14 rfl rfl)
theorem dX1_init_203 : decode cX1_init 203 = .ok (.aload_n 0, 1) := dk_42 (dk_at dksX1_init_8 17 rfl rfl)
theorem dX1_init_204 : decode cX1_init 204 = .ok (.bipush 29, 2) := dk_16 29 (dk_at dksX1_init_8 18 rfl rfl)
theorem dX1_init_206 : decode cX1_init 206 = .ok (.bipush 13, 2) := dk_16 13 (dk_at dksX1_init_8 20 rfl rfl)
theorem dX1_init_208 : decode cX1_init 208 = .ok (.multianewarray 66 2, 4) := by decide +kernel
theorem dX1_init_212 : decode cX1_init 212 = .ok (.putfield 99, 3) := dk_181 0 99 (dk_at dksX1_init_9 4 rfl rfl)
theorem dX1_init_215 : decode cX1_init 215 = .ok (.return_, 1) := dk_177 (dk_at dksX1_init_9 7 rfl rfl)
abbrev cX1_feed : ByteArray := prog_1_method_13_code
def yX1_feed : MethodName := ⟨RX1, "feed", "(IIIII)I"⟩
def dkwX1_feed_2 : List UInt8 := [172]
abbrev dktX1_feed_2 : List UInt8 := dkwX1_feed_2 ++ []
def dkwX1_feed_1 : List UInt8 := [182, 0, 188, 42, 29, 182, 0, 188, 42, 21, 4, 182, 0, 188, 42, 21, 5, 182, 0, 188, 42, 180, 0, 185]
abbrev dktX1_feed_1 : List UInt8 := dkwX1_feed_1 ++ dktX1_feed_2
def dkwX1_feed_0 : List UInt8 := [42, 180, 0, 185, 16, 20, 96, 17, 1, 144, 164, 0, 5, 2, 172, 42, 27, 182, 0, 188, 42, 28]
abbrev dktX1_feed_0 : List UInt8 := dkwX1_feed_0 ++ dktX1_feed_1
theorem dksX1_feed_0 : cX1_feed.data.toList.drop 0 = dktX1_feed_0 := by decide +kernel
theorem dksX1_feed_1 : cX1_feed.data.toList.drop 22 = dktX1_feed_1 := dk_seg dksX1_feed_0 22 rfl rfl
theorem dksX1_feed_2 : cX1_feed.data.toList.drop 46 = dktX1_feed_2 := dk_seg dksX1_feed_1 24 rfl rfl
theorem dX1_feed_0 : decode cX1_feed 0 = .ok (.aload_n 0, 1) := dk_42 (dk_at dksX1_feed_0 0 rfl rfl)
theorem dX1_feed_1 : decode cX1_feed 1 = .ok (.getfield 185, 3) := dk_180 0 185 (dk_at dksX1_feed_0 1 rfl rfl)
theorem dX1_feed_4 : decode cX1_feed 4 = .ok (.bipush 20, 2) := dk_16 20 (dk_at dksX1_feed_0 4 rfl rfl)
theorem dX1_feed_6 : decode cX1_feed 6 = .ok (.iadd, 1) := dk_96 (dk_at dksX1_feed_0 6 rfl rfl)
theorem dX1_feed_7 : decode cX1_feed 7 = .ok (.sipush 400, 3) := dk_17 1 144 (dk_at dksX1_feed_0 7 rfl rfl)
theorem dX1_feed_10 : decode cX1_feed 10 = .ok (.if_icmp .le 5, 3) := dk_164 0 5 (dk_at dksX1_feed_0 10 rfl rfl)
theorem dX1_feed_13 : decode cX1_feed 13 = .ok (.iconst (-1), 1) := dk_2 (dk_at dksX1_feed_0 13 rfl rfl)
theorem dX1_feed_14 : decode cX1_feed 14 = .ok (.ireturn, 1) := dk_172 (dk_at dksX1_feed_0 14 rfl rfl)
theorem dX1_feed_15 : decode cX1_feed 15 = .ok (.aload_n 0, 1) := dk_42 (dk_at dksX1_feed_0 15 rfl rfl)
theorem dX1_feed_16 : decode cX1_feed 16 = .ok (.iload_n 1, 1) := dk_27 (dk_at dksX1_feed_0 16 rfl rfl)
theorem dX1_feed_17 : decode cX1_feed 17 = .ok (.invokevirtual 188, 3) := dk_182 0 188 (dk_at dksX1_feed_0 17 rfl rfl)
theorem dX1_feed_20 : decode cX1_feed 20 = .ok (.aload_n 0, 1) := dk_42 (dk_at dksX1_feed_0 20 rfl rfl)
theorem dX1_feed_21 : decode cX1_feed 21 = .ok (.iload_n 2, 1) := dk_28 (dk_at dksX1_feed_0 21 rfl rfl)
theorem dX1_feed_22 : decode cX1_feed 22 = .ok (.invokevirtual 188, 3) := dk_182 0 188 (dk_at dksX1_feed_1 0 rfl rfl)
theorem dX1_feed_25 : decode cX1_feed 25 = .ok (.aload_n 0, 1) := dk_42 (dk_at dksX1_feed_1 3 rfl rfl)
theorem dX1_feed_26 : decode cX1_feed 26 = .ok (.iload_n 3, 1) := dk_29 (dk_at dksX1_feed_1 4 rfl rfl)
theorem dX1_feed_27 : decode cX1_feed 27 = .ok (.invokevirtual 188, 3) := dk_182 0 188 (dk_at dksX1_feed_1 5 rfl rfl)
theorem dX1_feed_30 : decode cX1_feed 30 = .ok (.aload_n 0, 1) := dk_42 (dk_at dksX1_feed_1 8 rfl rfl)
theorem dX1_feed_31 : decode cX1_feed 31 = .ok (.iload 4, 2) := dk_21 4 (dk_at dksX1_feed_1 9 rfl rfl)
theorem dX1_feed_33 : decode cX1_feed 33 = .ok (.invokevirtual 188, 3) := dk_182 0 188 (dk_at dksX1_feed_1 11 rfl rfl)
theorem dX1_feed_36 : decode cX1_feed 36 = .ok (.aload_n 0, 1) := dk_42 (dk_at dksX1_feed_1 14 rfl rfl)
theorem dX1_feed_37 : decode cX1_feed 37 = .ok (.iload 5, 2) := dk_21 5 (dk_at dksX1_feed_1 15 rfl rfl)
theorem dX1_feed_39 : decode cX1_feed 39 = .ok (.invokevirtual 188, 3) := dk_182 0 188 (dk_at dksX1_feed_1 17 rfl rfl)
theorem dX1_feed_42 : decode cX1_feed 42 = .ok (.aload_n 0, 1) := dk_42 (dk_at dksX1_feed_1 20 rfl rfl)
theorem dX1_feed_43 : decode cX1_feed 43 = .ok (.getfield 185, 3) := dk_180 0 185 (dk_at dksX1_feed_1 21 rfl rfl)
theorem dX1_feed_46 : decode cX1_feed 46 = .ok (.ireturn, 1) := dk_172 (dk_at dksX1_feed_2 0 rfl rfl)
abbrev cX1_four : ByteArray := prog_1_method_14_code
def yX1_four : MethodName := ⟨RX1, "four", "(I)V"⟩
def dkwX1_four_1 : List UInt8 := [180, 0, 185, 4, 96, 181, 0, 185, 132, 2, 248, 167, 255, 226, 177]
abbrev dktX1_four_1 : List UInt8 := dkwX1_four_1 ++ []
def dkwX1_four_0 : List UInt8 := [16, 24, 61, 28, 155, 0, 32, 42, 180, 0, 32, 42, 180, 0, 185, 27, 28, 122, 145, 84, 42, 89]
abbrev dktX1_four_0 : List UInt8 := dkwX1_four_0 ++ dktX1_four_1
theorem dksX1_four_0 : cX1_four.data.toList.drop 0 = dktX1_four_0 := by decide +kernel
theorem dksX1_four_1 : cX1_four.data.toList.drop 22 = dktX1_four_1 := dk_seg dksX1_four_0 22 rfl rfl
theorem dX1_four_0 : decode cX1_four 0 = .ok (.bipush 24, 2) := dk_16 24 (dk_at dksX1_four_0 0 rfl rfl)
theorem dX1_four_2 : decode cX1_four 2 = .ok (.istore_n 2, 1) := dk_61 (dk_at dksX1_four_0 2 rfl rfl)
theorem dX1_four_3 : decode cX1_four 3 = .ok (.iload_n 2, 1) := dk_28 (dk_at dksX1_four_0 3 rfl rfl)
theorem dX1_four_4 : decode cX1_four 4 = .ok (.ifCond .lt 32, 3) := dk_155 0 32 (dk_at dksX1_four_0 4 rfl rfl)
theorem dX1_four_7 : decode cX1_four 7 = .ok (.aload_n 0, 1) := dk_42 (dk_at dksX1_four_0 7 rfl rfl)
theorem dX1_four_8 : decode cX1_four 8 = .ok (.getfield 32, 3) := dk_180 0 32 (dk_at dksX1_four_0 8 rfl rfl)
theorem dX1_four_11 : decode cX1_four 11 = .ok (.aload_n 0, 1) := dk_42 (dk_at dksX1_four_0 11 rfl rfl)
theorem dX1_four_12 : decode cX1_four 12 = .ok (.getfield 185, 3) := dk_180 0 185 (dk_at dksX1_four_0 12 rfl rfl)
theorem dX1_four_15 : decode cX1_four 15 = .ok (.iload_n 1, 1) := dk_27 (dk_at dksX1_four_0 15 rfl rfl)
theorem dX1_four_16 : decode cX1_four 16 = .ok (.iload_n 2, 1) := dk_28 (dk_at dksX1_four_0 16 rfl rfl)
theorem dX1_four_17 : decode cX1_four 17 = .ok (.ishr, 1) := dk_122 (dk_at dksX1_four_0 17 rfl rfl)
theorem dX1_four_18 : decode cX1_four 18 = .ok (.i2b, 1) := dk_145 (dk_at dksX1_four_0 18 rfl rfl)
theorem dX1_four_19 : decode cX1_four 19 = .ok (.bastore, 1) := dk_84 (dk_at dksX1_four_0 19 rfl rfl)
theorem dX1_four_20 : decode cX1_four 20 = .ok (.aload_n 0, 1) := dk_42 (dk_at dksX1_four_0 20 rfl rfl)
theorem dX1_four_21 : decode cX1_four 21 = .ok (.dup, 1) := dk_89 (dk_at dksX1_four_0 21 rfl rfl)
theorem dX1_four_22 : decode cX1_four 22 = .ok (.getfield 185, 3) := dk_180 0 185 (dk_at dksX1_four_1 0 rfl rfl)
theorem dX1_four_25 : decode cX1_four 25 = .ok (.iconst 1, 1) := dk_4 (dk_at dksX1_four_1 3 rfl rfl)
theorem dX1_four_26 : decode cX1_four 26 = .ok (.iadd, 1) := dk_96 (dk_at dksX1_four_1 4 rfl rfl)
theorem dX1_four_27 : decode cX1_four 27 = .ok (.putfield 185, 3) := dk_181 0 185 (dk_at dksX1_four_1 5 rfl rfl)
theorem dX1_four_30 : decode cX1_four 30 = .ok (.iinc 2 (-8), 3) := dk_132 2 248 (dk_at dksX1_four_1 8 rfl rfl)
theorem dX1_four_33 : decode cX1_four 33 = .ok (.goto (-30), 3) := dk_167 255 226 (dk_at dksX1_four_1 11 rfl rfl)
theorem dX1_four_36 : decode cX1_four 36 = .ok (.return_, 1) := dk_177 (dk_at dksX1_four_1 14 rfl rfl)
abbrev cX1_fault : ByteArray := prog_1_method_18_code
def yX1_fault : MethodName := ⟨RX1, "fault", "(I)I"⟩
def dkwX1_fault_1 : List UInt8 := [172]
abbrev dktX1_fault_1 : List UInt8 := dkwX1_fault_1 ++ []
def dkwX1_fault_0 : List UInt8 := [27, 154, 0, 10, 42, 180, 0, 192, 167, 0, 16, 27, 4, 160, 0, 10, 42, 180, 0, 36, 167, 0, 4, 2]
abbrev dktX1_fault_0 : List UInt8 := dkwX1_fault_0 ++ dktX1_fault_1
theorem dksX1_fault_0 : cX1_fault.data.toList.drop 0 = dktX1_fault_0 := by decide +kernel
theorem dksX1_fault_1 : cX1_fault.data.toList.drop 24 = dktX1_fault_1 := dk_seg dksX1_fault_0 24 rfl rfl
theorem dX1_fault_0 : decode cX1_fault 0 = .ok (.iload_n 1, 1) := dk_27 (dk_at dksX1_fault_0 0 rfl rfl)
theorem dX1_fault_1 : decode cX1_fault 1 = .ok (.ifCond .ne 10, 3) := dk_154 0 10 (dk_at dksX1_fault_0 1 rfl rfl)
theorem dX1_fault_4 : decode cX1_fault 4 = .ok (.aload_n 0, 1) := dk_42 (dk_at dksX1_fault_0 4 rfl rfl)
theorem dX1_fault_5 : decode cX1_fault 5 = .ok (.getfield 192, 3) := dk_180 0 192 (dk_at dksX1_fault_0 5 rfl rfl)
theorem dX1_fault_8 : decode cX1_fault 8 = .ok (.goto 16, 3) := dk_167 0 16 (dk_at dksX1_fault_0 8 rfl rfl)
theorem dX1_fault_11 : decode cX1_fault 11 = .ok (.iload_n 1, 1) := dk_27 (dk_at dksX1_fault_0 11 rfl rfl)
theorem dX1_fault_12 : decode cX1_fault 12 = .ok (.iconst 1, 1) := dk_4 (dk_at dksX1_fault_0 12 rfl rfl)
theorem dX1_fault_13 : decode cX1_fault 13 = .ok (.if_icmp .ne 10, 3) := dk_160 0 10 (dk_at dksX1_fault_0 13 rfl rfl)
theorem dX1_fault_16 : decode cX1_fault 16 = .ok (.aload_n 0, 1) := dk_42 (dk_at dksX1_fault_0 16 rfl rfl)
theorem dX1_fault_17 : decode cX1_fault 17 = .ok (.getfield 36, 3) := dk_180 0 36 (dk_at dksX1_fault_0 17 rfl rfl)
theorem dX1_fault_20 : decode cX1_fault 20 = .ok (.goto 4, 3) := dk_167 0 4 (dk_at dksX1_fault_0 20 rfl rfl)
theorem dX1_fault_23 : decode cX1_fault 23 = .ok (.iconst (-1), 1) := dk_2 (dk_at dksX1_fault_0 23 rfl rfl)
theorem dX1_fault_24 : decode cX1_fault 24 = .ok (.ireturn, 1) := dk_172 (dk_at dksX1_fault_1 0 rfl rfl)
abbrev cX1_round : ByteArray := prog_1_method_31_code
def yX1_round : MethodName := ⟨RX1, "round", "()I"⟩
def dkwX1_round_3 : List UInt8 := [2, 172]
abbrev dktX1_round_3 : List UInt8 := dkwX1_round_3 ++ []
def dkwX1_round_2 : List UInt8 := [100, 182, 1, 83, 154, 0, 6, 167, 0, 11, 132, 3, 1, 167, 255, 230, 28, 172, 132, 2, 1, 167, 255, 197]
abbrev dktX1_round_2 : List UInt8 := dkwX1_round_2 ++ dktX1_round_3
def dkwX1_round_1 : List UInt8 := [100, 182, 1, 72, 154, 0, 5, 2, 172, 4, 62, 29, 28, 163, 0, 27, 42, 27, 29, 100, 27, 29, 100, 28]
abbrev dktX1_round_1 : List UInt8 := dkwX1_round_1 ++ dktX1_round_2
def dkwX1_round_0 : List UInt8 := [42, 180, 0, 22, 180, 0, 126, 60, 4, 61, 28, 16, 100, 163, 0, 59, 42, 180, 0, 22, 27, 5, 28, 104]
abbrev dktX1_round_0 : List UInt8 := dkwX1_round_0 ++ dktX1_round_1
theorem dksX1_round_0 : cX1_round.data.toList.drop 0 = dktX1_round_0 := by decide +kernel
theorem dksX1_round_1 : cX1_round.data.toList.drop 24 = dktX1_round_1 := dk_seg dksX1_round_0 24 rfl rfl
theorem dksX1_round_2 : cX1_round.data.toList.drop 48 = dktX1_round_2 := dk_seg dksX1_round_1 24 rfl rfl
theorem dksX1_round_3 : cX1_round.data.toList.drop 72 = dktX1_round_3 := dk_seg dksX1_round_2 24 rfl rfl
theorem dX1_round_0 : decode cX1_round 0 = .ok (.aload_n 0, 1) := dk_42 (dk_at dksX1_round_0 0 rfl rfl)
theorem dX1_round_1 : decode cX1_round 1 = .ok (.getfield 22, 3) := dk_180 0 22 (dk_at dksX1_round_0 1 rfl rfl)
theorem dX1_round_4 : decode cX1_round 4 = .ok (.getfield 126, 3) := dk_180 0 126 (dk_at dksX1_round_0 4 rfl rfl)
theorem dX1_round_7 : decode cX1_round 7 = .ok (.istore_n 1, 1) := dk_60 (dk_at dksX1_round_0 7 rfl rfl)
theorem dX1_round_8 : decode cX1_round 8 = .ok (.iconst 1, 1) := dk_4 (dk_at dksX1_round_0 8 rfl rfl)
theorem dX1_round_9 : decode cX1_round 9 = .ok (.istore_n 2, 1) := dk_61 (dk_at dksX1_round_0 9 rfl rfl)
theorem dX1_round_10 : decode cX1_round 10 = .ok (.iload_n 2, 1) := dk_28 (dk_at dksX1_round_0 10 rfl rfl)
theorem dX1_round_11 : decode cX1_round 11 = .ok (.bipush 100, 2) := dk_16 100 (dk_at dksX1_round_0 11 rfl rfl)
theorem dX1_round_13 : decode cX1_round 13 = .ok (.if_icmp .gt 59, 3) := dk_163 0 59 (dk_at dksX1_round_0 13 rfl rfl)
theorem dX1_round_16 : decode cX1_round 16 = .ok (.aload_n 0, 1) := dk_42 (dk_at dksX1_round_0 16 rfl rfl)
theorem dX1_round_17 : decode cX1_round 17 = .ok (.getfield 22, 3) := dk_180 0 22 (dk_at dksX1_round_0 17 rfl rfl)
theorem dX1_round_20 : decode cX1_round 20 = .ok (.iload_n 1, 1) := dk_27 (dk_at dksX1_round_0 20 rfl rfl)
theorem dX1_round_21 : decode cX1_round 21 = .ok (.iconst 2, 1) := dk_5 (dk_at dksX1_round_0 21 rfl rfl)
theorem dX1_round_22 : decode cX1_round 22 = .ok (.iload_n 2, 1) := dk_28 (dk_at dksX1_round_0 22 rfl rfl)
theorem dX1_round_23 : decode cX1_round 23 = .ok (.imul, 1) := dk_104 (dk_at dksX1_round_0 23 rfl rfl)
theorem dX1_round_24 : decode cX1_round 24 = .ok (.isub, 1) := dk_100 (dk_at dksX1_round_1 0 rfl rfl)
theorem dX1_round_25 : decode cX1_round 25 = .ok (.invokevirtual 328, 3) := dk_182 1 72 (dk_at dksX1_round_1 1 rfl rfl)
theorem dX1_round_28 : decode cX1_round 28 = .ok (.ifCond .ne 5, 3) := dk_154 0 5 (dk_at dksX1_round_1 4 rfl rfl)
theorem dX1_round_31 : decode cX1_round 31 = .ok (.iconst (-1), 1) := dk_2 (dk_at dksX1_round_1 7 rfl rfl)
theorem dX1_round_32 : decode cX1_round 32 = .ok (.ireturn, 1) := dk_172 (dk_at dksX1_round_1 8 rfl rfl)
theorem dX1_round_33 : decode cX1_round 33 = .ok (.iconst 1, 1) := dk_4 (dk_at dksX1_round_1 9 rfl rfl)
theorem dX1_round_34 : decode cX1_round 34 = .ok (.istore_n 3, 1) := dk_62 (dk_at dksX1_round_1 10 rfl rfl)
theorem dX1_round_35 : decode cX1_round 35 = .ok (.iload_n 3, 1) := dk_29 (dk_at dksX1_round_1 11 rfl rfl)
theorem dX1_round_36 : decode cX1_round 36 = .ok (.iload_n 2, 1) := dk_28 (dk_at dksX1_round_1 12 rfl rfl)
theorem dX1_round_37 : decode cX1_round 37 = .ok (.if_icmp .gt 27, 3) := dk_163 0 27 (dk_at dksX1_round_1 13 rfl rfl)
theorem dX1_round_40 : decode cX1_round 40 = .ok (.aload_n 0, 1) := dk_42 (dk_at dksX1_round_1 16 rfl rfl)
theorem dX1_round_41 : decode cX1_round 41 = .ok (.iload_n 1, 1) := dk_27 (dk_at dksX1_round_1 17 rfl rfl)
theorem dX1_round_42 : decode cX1_round 42 = .ok (.iload_n 3, 1) := dk_29 (dk_at dksX1_round_1 18 rfl rfl)
theorem dX1_round_43 : decode cX1_round 43 = .ok (.isub, 1) := dk_100 (dk_at dksX1_round_1 19 rfl rfl)
theorem dX1_round_44 : decode cX1_round 44 = .ok (.iload_n 1, 1) := dk_27 (dk_at dksX1_round_1 20 rfl rfl)
theorem dX1_round_45 : decode cX1_round 45 = .ok (.iload_n 3, 1) := dk_29 (dk_at dksX1_round_1 21 rfl rfl)
theorem dX1_round_46 : decode cX1_round 46 = .ok (.isub, 1) := dk_100 (dk_at dksX1_round_1 22 rfl rfl)
theorem dX1_round_47 : decode cX1_round 47 = .ok (.iload_n 2, 1) := dk_28 (dk_at dksX1_round_1 23 rfl rfl)
theorem dX1_round_48 : decode cX1_round 48 = .ok (.isub, 1) := dk_100 (dk_at dksX1_round_2 0 rfl rfl)
theorem dX1_round_49 : decode cX1_round 49 = .ok (.invokevirtual 339, 3) := dk_182 1 83 (dk_at dksX1_round_2 1 rfl rfl)
theorem dX1_round_52 : decode cX1_round 52 = .ok (.ifCond .ne 6, 3) := dk_154 0 6 (dk_at dksX1_round_2 4 rfl rfl)
theorem dX1_round_55 : decode cX1_round 55 = .ok (.goto 11, 3) := dk_167 0 11 (dk_at dksX1_round_2 7 rfl rfl)
theorem dX1_round_58 : decode cX1_round 58 = .ok (.iinc 3 1, 3) := dk_132 3 1 (dk_at dksX1_round_2 10 rfl rfl)
theorem dX1_round_61 : decode cX1_round 61 = .ok (.goto (-26), 3) := dk_167 255 230 (dk_at dksX1_round_2 13 rfl rfl)
theorem dX1_round_64 : decode cX1_round 64 = .ok (.iload_n 2, 1) := dk_28 (dk_at dksX1_round_2 16 rfl rfl)
theorem dX1_round_65 : decode cX1_round 65 = .ok (.ireturn, 1) := dk_172 (dk_at dksX1_round_2 17 rfl rfl)
theorem dX1_round_66 : decode cX1_round 66 = .ok (.iinc 2 1, 3) := dk_132 2 1 (dk_at dksX1_round_2 18 rfl rfl)
theorem dX1_round_69 : decode cX1_round 69 = .ok (.goto (-59), 3) := dk_167 255 197 (dk_at dksX1_round_2 21 rfl rfl)
theorem dX1_round_72 : decode cX1_round 72 = .ok (.iconst (-1), 1) := dk_2 (dk_at dksX1_round_3 0 rfl rfl)
theorem dX1_round_73 : decode cX1_round 73 = .ok (.ireturn, 1) := dk_172 (dk_at dksX1_round_3 1 rfl rfl)
abbrev cX1_areAlike : ByteArray := prog_1_method_30_code
def yX1_areAlike : MethodName := ⟨RX1, "areAlike", "(II)Z"⟩
def dkwX1_areAlike_1 : List UInt8 := [180, 0, 22, 29, 28, 182, 1, 76, 159, 0, 5, 3, 172, 132, 3, 1, 167, 255, 219, 4, 172]
abbrev dktX1_areAlike_1 : List UInt8 := dkwX1_areAlike_1 ++ []
def dkwX1_areAlike_0 : List UInt8 := [3, 62, 29, 42, 180, 0, 22, 182, 0, 102, 162, 0, 32, 42, 180, 0, 22, 29, 27, 182, 1, 76, 42]
abbrev dktX1_areAlike_0 : List UInt8 := dkwX1_areAlike_0 ++ dktX1_areAlike_1
theorem dksX1_areAlike_0 : cX1_areAlike.data.toList.drop 0 = dktX1_areAlike_0 := by decide +kernel
theorem dksX1_areAlike_1 : cX1_areAlike.data.toList.drop 23 = dktX1_areAlike_1 := dk_seg dksX1_areAlike_0 23 rfl rfl
theorem dX1_areAlike_0 : decode cX1_areAlike 0 = .ok (.iconst 0, 1) := dk_3 (dk_at dksX1_areAlike_0 0 rfl rfl)
theorem dX1_areAlike_1 : decode cX1_areAlike 1 = .ok (.istore_n 3, 1) := dk_62 (dk_at dksX1_areAlike_0 1 rfl rfl)
theorem dX1_areAlike_2 : decode cX1_areAlike 2 = .ok (.iload_n 3, 1) := dk_29 (dk_at dksX1_areAlike_0 2 rfl rfl)
theorem dX1_areAlike_3 : decode cX1_areAlike 3 = .ok (.aload_n 0, 1) := dk_42 (dk_at dksX1_areAlike_0 3 rfl rfl)
theorem dX1_areAlike_4 : decode cX1_areAlike 4 = .ok (.getfield 22, 3) := dk_180 0 22 (dk_at dksX1_areAlike_0 4 rfl rfl)
theorem dX1_areAlike_7 : decode cX1_areAlike 7 = .ok (.invokevirtual 102, 3) := dk_182 0 102 (dk_at dksX1_areAlike_0 7 rfl rfl)
theorem dX1_areAlike_10 : decode cX1_areAlike 10 = .ok (.if_icmp .ge 32, 3) := dk_162 0 32 (dk_at dksX1_areAlike_0 10 rfl rfl)
theorem dX1_areAlike_13 : decode cX1_areAlike 13 = .ok (.aload_n 0, 1) := dk_42 (dk_at dksX1_areAlike_0 13 rfl rfl)
theorem dX1_areAlike_14 : decode cX1_areAlike 14 = .ok (.getfield 22, 3) := dk_180 0 22 (dk_at dksX1_areAlike_0 14 rfl rfl)
theorem dX1_areAlike_17 : decode cX1_areAlike 17 = .ok (.iload_n 3, 1) := dk_29 (dk_at dksX1_areAlike_0 17 rfl rfl)
theorem dX1_areAlike_18 : decode cX1_areAlike 18 = .ok (.iload_n 1, 1) := dk_27 (dk_at dksX1_areAlike_0 18 rfl rfl)
theorem dX1_areAlike_19 : decode cX1_areAlike 19 = .ok (.invokevirtual 332, 3) := dk_182 1 76 (dk_at dksX1_areAlike_0 19 rfl rfl)
theorem dX1_areAlike_22 : decode cX1_areAlike 22 = .ok (.aload_n 0, 1) := dk_42 (dk_at dksX1_areAlike_0 22 rfl rfl)
theorem dX1_areAlike_23 : decode cX1_areAlike 23 = .ok (.getfield 22, 3) := dk_180 0 22 (dk_at dksX1_areAlike_1 0 rfl rfl)
theorem dX1_areAlike_26 : decode cX1_areAlike 26 = .ok (.iload_n 3, 1) := dk_29 (dk_at dksX1_areAlike_1 3 rfl rfl)
theorem dX1_areAlike_27 : decode cX1_areAlike 27 = .ok (.iload_n 2, 1) := dk_28 (dk_at dksX1_areAlike_1 4 rfl rfl)
theorem dX1_areAlike_28 : decode cX1_areAlike 28 = .ok (.invokevirtual 332, 3) := dk_182 1 76 (dk_at dksX1_areAlike_1 5 rfl rfl)
theorem dX1_areAlike_31 : decode cX1_areAlike 31 = .ok (.if_icmp .eq 5, 3) := dk_159 0 5 (dk_at dksX1_areAlike_1 8 rfl rfl)
theorem dX1_areAlike_34 : decode cX1_areAlike 34 = .ok (.iconst 0, 1) := dk_3 (dk_at dksX1_areAlike_1 11 rfl rfl)
theorem dX1_areAlike_35 : decode cX1_areAlike 35 = .ok (.ireturn, 1) := dk_172 (dk_at dksX1_areAlike_1 12 rfl rfl)
theorem dX1_areAlike_36 : decode cX1_areAlike 36 = .ok (.iinc 3 1, 3) := dk_132 3 1 (dk_at dksX1_areAlike_1 13 rfl rfl)
theorem dX1_areAlike_39 : decode cX1_areAlike 39 = .ok (.goto (-37), 3) := dk_167 255 219 (dk_at dksX1_areAlike_1 16 rfl rfl)
theorem dX1_areAlike_42 : decode cX1_areAlike 42 = .ok (.iconst 1, 1) := dk_4 (dk_at dksX1_areAlike_1 19 rfl rfl)
theorem dX1_areAlike_43 : decode cX1_areAlike 43 = .ok (.ireturn, 1) := dk_172 (dk_at dksX1_areAlike_1 20 rfl rfl)
abbrev cX1_upper : ByteArray := prog_1_method_38_code
def yX1_upper : MethodName := ⟨RX1, "upper", "()J"⟩
theorem dX1_upper_0 : decode cX1_upper 0 = .ok (.aload_n 0, 1) := by decide +kernel
theorem dX1_upper_1 : decode cX1_upper 1 = .ok (.getfield 355, 3) := by decide +kernel
theorem dX1_upper_4 : decode cX1_upper 4 = .ok (.lreturn, 1) := by decide +kernel
abbrev cX1_lower : ByteArray := prog_1_method_39_code
def yX1_lower : MethodName := ⟨RX1, "lower", "()J"⟩
theorem dX1_lower_0 : decode cX1_lower 0 = .ok (.aload_n 0, 1) := by decide +kernel
theorem dX1_lower_1 : decode cX1_lower 1 = .ok (.getfield 358, 3) := by decide +kernel
theorem dX1_lower_4 : decode cX1_lower 4 = .ok (.lreturn, 1) := by decide +kernel
abbrev cX1_odds : ByteArray := prog_1_method_65_code
def yX1_odds : MethodName := ⟨RX1, "odds", "()V"⟩
def dkwX1_odds_4 : List UInt8 := [132, 8, 1, 167, 255, 207, 132, 5, 1, 167, 255, 161, 42, 31, 33, 182, 1, 119, 177]
abbrev dktX1_odds_4 : List UInt8 := dkwX1_odds_4 ++ []
def dkwX1_odds_3 : List UInt8 := [21, 9, 46, 133, 105, 64, 33, 42, 180, 0, 22, 180, 1, 197, 4, 50, 21, 9, 46, 133, 105, 66]
abbrev dktX1_odds_3 : List UInt8 := dkwX1_odds_3 ++ dktX1_odds_4
def dkwX1_odds_2 : List UInt8 := [21, 8, 21, 7, 162, 0, 48, 25, 6, 21, 8, 46, 54, 9, 31, 42, 180, 0, 22, 180, 1, 197, 3, 50]
abbrev dktX1_odds_2 : List UInt8 := dkwX1_odds_2 ++ dktX1_odds_3
def dkwX1_odds_1 : List UInt8 := [180, 0, 22, 180, 1, 200, 21, 5, 182, 0, 118, 192, 1, 209, 58, 6, 25, 6, 190, 54, 7, 3, 54, 8]
abbrev dktX1_odds_1 : List UInt8 := dkwX1_odds_1 ++ dktX1_odds_2
def dkwX1_odds_0 : List UInt8 := [10, 64, 10, 66, 3, 54, 5, 21, 5, 42, 180, 0, 22, 180, 1, 200, 182, 0, 162, 162, 0, 86, 42]
abbrev dktX1_odds_0 : List UInt8 := dkwX1_odds_0 ++ dktX1_odds_1
theorem dksX1_odds_0 : cX1_odds.data.toList.drop 0 = dktX1_odds_0 := by decide +kernel
theorem dksX1_odds_1 : cX1_odds.data.toList.drop 23 = dktX1_odds_1 := dk_seg dksX1_odds_0 23 rfl rfl
theorem dksX1_odds_2 : cX1_odds.data.toList.drop 47 = dktX1_odds_2 := dk_seg dksX1_odds_1 24 rfl rfl
theorem dksX1_odds_3 : cX1_odds.data.toList.drop 71 = dktX1_odds_3 := dk_seg dksX1_odds_2 24 rfl rfl
theorem dksX1_odds_4 : cX1_odds.data.toList.drop 93 = dktX1_odds_4 := dk_seg dksX1_odds_3 22 rfl rfl
theorem dX1_odds_0 : decode cX1_odds 0 = .ok (.lconst 1, 1) := dk_10 (dk_at dksX1_odds_0 0 rfl rfl)
theorem dX1_odds_1 : decode cX1_odds 1 = .ok (.lstore_n 1, 1) := dk_64 (dk_at dksX1_odds_0 1 rfl rfl)
theorem dX1_odds_2 : decode cX1_odds 2 = .ok (.lconst 1, 1) := dk_10 (dk_at dksX1_odds_0 2 rfl rfl)
theorem dX1_odds_3 : decode cX1_odds 3 = .ok (.lstore_n 3, 1) := dk_66 (dk_at dksX1_odds_0 3 rfl rfl)
theorem dX1_odds_4 : decode cX1_odds 4 = .ok (.iconst 0, 1) := dk_3 (dk_at dksX1_odds_0 4 rfl rfl)
theorem dX1_odds_5 : decode cX1_odds 5 = .ok (.istore 5, 2) := dk_54 5 (dk_at dksX1_odds_0 5 rfl rfl)
theorem dX1_odds_7 : decode cX1_odds 7 = .ok (.iload 5, 2) := dk_21 5 (dk_at dksX1_odds_0 7 rfl rfl)
theorem dX1_odds_9 : decode cX1_odds 9 = .ok (.aload_n 0, 1) := dk_42 (dk_at dksX1_odds_0 9 rfl rfl)
theorem dX1_odds_10 : decode cX1_odds 10 = .ok (.getfield 22, 3) := dk_180 0 22 (dk_at dksX1_odds_0 10 rfl rfl)
theorem dX1_odds_13 : decode cX1_odds 13 = .ok (.getfield 456, 3) := dk_180 1 200 (dk_at dksX1_odds_0 13 rfl rfl)
theorem dX1_odds_16 : decode cX1_odds 16 = .ok (.invokevirtual 162, 3) := dk_182 0 162 (dk_at dksX1_odds_0 16 rfl rfl)
theorem dX1_odds_19 : decode cX1_odds 19 = .ok (.if_icmp .ge 86, 3) := dk_162 0 86 (dk_at dksX1_odds_0 19 rfl rfl)
theorem dX1_odds_22 : decode cX1_odds 22 = .ok (.aload_n 0, 1) := dk_42 (dk_at dksX1_odds_0 22 rfl rfl)
theorem dX1_odds_23 : decode cX1_odds 23 = .ok (.getfield 22, 3) := dk_180 0 22 (dk_at dksX1_odds_1 0 rfl rfl)
theorem dX1_odds_26 : decode cX1_odds 26 = .ok (.getfield 456, 3) := dk_180 1 200 (dk_at dksX1_odds_1 3 rfl rfl)
theorem dX1_odds_29 : decode cX1_odds 29 = .ok (.iload 5, 2) := dk_21 5 (dk_at dksX1_odds_1 6 rfl rfl)
theorem dX1_odds_31 : decode cX1_odds 31 = .ok (.invokevirtual 118, 3) := dk_182 0 118 (dk_at dksX1_odds_1 8 rfl rfl)
theorem dX1_odds_34 : decode cX1_odds 34 = .ok (.checkcast 465, 3) := dk_192 1 209 (dk_at dksX1_odds_1 11 rfl rfl)
theorem dX1_odds_37 : decode cX1_odds 37 = .ok (.astore 6, 2) := dk_58 6 (dk_at dksX1_odds_1 14 rfl rfl)
theorem dX1_odds_39 : decode cX1_odds 39 = .ok (.aload 6, 2) := dk_25 6 (dk_at dksX1_odds_1 16 rfl rfl)
theorem dX1_odds_41 : decode cX1_odds 41 = .ok (.arraylength, 1) := dk_190 (dk_at dksX1_odds_1 18 rfl rfl)
theorem dX1_odds_42 : decode cX1_odds 42 = .ok (.istore 7, 2) := dk_54 7 (dk_at dksX1_odds_1 19 rfl rfl)
theorem dX1_odds_44 : decode cX1_odds 44 = .ok (.iconst 0, 1) := dk_3 (dk_at dksX1_odds_1 21 rfl rfl)
theorem dX1_odds_45 : decode cX1_odds 45 = .ok (.istore 8, 2) := dk_54 8 (dk_at dksX1_odds_1 22 rfl rfl)
theorem dX1_odds_47 : decode cX1_odds 47 = .ok (.iload 8, 2) := dk_21 8 (dk_at dksX1_odds_2 0 rfl rfl)
theorem dX1_odds_49 : decode cX1_odds 49 = .ok (.iload 7, 2) := dk_21 7 (dk_at dksX1_odds_2 2 rfl rfl)
theorem dX1_odds_51 : decode cX1_odds 51 = .ok (.if_icmp .ge 48, 3) := dk_162 0 48 (dk_at dksX1_odds_2 4 rfl rfl)
theorem dX1_odds_54 : decode cX1_odds 54 = .ok (.aload 6, 2) := dk_25 6 (dk_at dksX1_odds_2 7 rfl rfl)
theorem dX1_odds_56 : decode cX1_odds 56 = .ok (.iload 8, 2) := dk_21 8 (dk_at dksX1_odds_2 9 rfl rfl)
theorem dX1_odds_58 : decode cX1_odds 58 = .ok (.iaload, 1) := dk_46 (dk_at dksX1_odds_2 11 rfl rfl)
theorem dX1_odds_59 : decode cX1_odds 59 = .ok (.istore 9, 2) := dk_54 9 (dk_at dksX1_odds_2 12 rfl rfl)
theorem dX1_odds_61 : decode cX1_odds 61 = .ok (.lload_n 1, 1) := dk_31 (dk_at dksX1_odds_2 14 rfl rfl)
theorem dX1_odds_62 : decode cX1_odds 62 = .ok (.aload_n 0, 1) := dk_42 (dk_at dksX1_odds_2 15 rfl rfl)
theorem dX1_odds_63 : decode cX1_odds 63 = .ok (.getfield 22, 3) := dk_180 0 22 (dk_at dksX1_odds_2 16 rfl rfl)
theorem dX1_odds_66 : decode cX1_odds 66 = .ok (.getfield 453, 3) := dk_180 1 197 (dk_at dksX1_odds_2 19 rfl rfl)
theorem dX1_odds_69 : decode cX1_odds 69 = .ok (.iconst 0, 1) := dk_3 (dk_at dksX1_odds_2 22 rfl rfl)
theorem dX1_odds_70 : decode cX1_odds 70 = .ok (.aaload, 1) := dk_50 (dk_at dksX1_odds_2 23 rfl rfl)
theorem dX1_odds_71 : decode cX1_odds 71 = .ok (.iload 9, 2) := dk_21 9 (dk_at dksX1_odds_3 0 rfl rfl)
theorem dX1_odds_73 : decode cX1_odds 73 = .ok (.iaload, 1) := dk_46 (dk_at dksX1_odds_3 2 rfl rfl)
theorem dX1_odds_74 : decode cX1_odds 74 = .ok (.i2l, 1) := dk_133 (dk_at dksX1_odds_3 3 rfl rfl)
theorem dX1_odds_75 : decode cX1_odds 75 = .ok (.lmul, 1) := dk_105 (dk_at dksX1_odds_3 4 rfl rfl)
theorem dX1_odds_76 : decode cX1_odds 76 = .ok (.lstore_n 1, 1) := dk_64 (dk_at dksX1_odds_3 5 rfl rfl)
theorem dX1_odds_77 : decode cX1_odds 77 = .ok (.lload_n 3, 1) := dk_33 (dk_at dksX1_odds_3 6 rfl rfl)
theorem dX1_odds_78 : decode cX1_odds 78 = .ok (.aload_n 0, 1) := dk_42 (dk_at dksX1_odds_3 7 rfl rfl)
theorem dX1_odds_79 : decode cX1_odds 79 = .ok (.getfield 22, 3) := dk_180 0 22 (dk_at dksX1_odds_3 8 rfl rfl)
theorem dX1_odds_82 : decode cX1_odds 82 = .ok (.getfield 453, 3) := dk_180 1 197 (dk_at dksX1_odds_3 11 rfl rfl)
theorem dX1_odds_85 : decode cX1_odds 85 = .ok (.iconst 1, 1) := dk_4 (dk_at dksX1_odds_3 14 rfl rfl)
theorem dX1_odds_86 : decode cX1_odds 86 = .ok (.aaload, 1) := dk_50 (dk_at dksX1_odds_3 15 rfl rfl)
theorem dX1_odds_87 : decode cX1_odds 87 = .ok (.iload 9, 2) := dk_21 9 (dk_at dksX1_odds_3 16 rfl rfl)
theorem dX1_odds_89 : decode cX1_odds 89 = .ok (.iaload, 1) := dk_46 (dk_at dksX1_odds_3 18 rfl rfl)
theorem dX1_odds_90 : decode cX1_odds 90 = .ok (.i2l, 1) := dk_133 (dk_at dksX1_odds_3 19 rfl rfl)
theorem dX1_odds_91 : decode cX1_odds 91 = .ok (.lmul, 1) := dk_105 (dk_at dksX1_odds_3 20 rfl rfl)
theorem dX1_odds_92 : decode cX1_odds 92 = .ok (.lstore_n 3, 1) := dk_66 (dk_at dksX1_odds_3 21 rfl rfl)
theorem dX1_odds_93 : decode cX1_odds 93 = .ok (.iinc 8 1, 3) := dk_132 8 1 (dk_at dksX1_odds_4 0 rfl rfl)
theorem dX1_odds_96 : decode cX1_odds 96 = .ok (.goto (-49), 3) := dk_167 255 207 (dk_at dksX1_odds_4 3 rfl rfl)
theorem dX1_odds_99 : decode cX1_odds 99 = .ok (.iinc 5 1, 3) := dk_132 5 1 (dk_at dksX1_odds_4 6 rfl rfl)
theorem dX1_odds_102 : decode cX1_odds 102 = .ok (.goto (-95), 3) := dk_167 255 161 (dk_at dksX1_odds_4 9 rfl rfl)
theorem dX1_odds_105 : decode cX1_odds 105 = .ok (.aload_n 0, 1) := dk_42 (dk_at dksX1_odds_4 12 rfl rfl)
theorem dX1_odds_106 : decode cX1_odds 106 = .ok (.lload_n 1, 1) := dk_31 (dk_at dksX1_odds_4 13 rfl rfl)
theorem dX1_odds_107 : decode cX1_odds 107 = .ok (.lload_n 3, 1) := dk_33 (dk_at dksX1_odds_4 14 rfl rfl)
theorem dX1_odds_108 : decode cX1_odds 108 = .ok (.invokevirtual 375, 3) := dk_182 1 119 (dk_at dksX1_odds_4 15 rfl rfl)
theorem dX1_odds_111 : decode cX1_odds 111 = .ok (.return_, 1) := dk_177 (dk_at dksX1_odds_4 18 rfl rfl)
abbrev cX1_tell : ByteArray := prog_1_method_37_code
def yX1_tell : MethodName := ⟨RX1, "tell", "(JJ)V"⟩
def dkwX1_tell_1 : List UInt8 := [181, 1, 99, 42, 22, 5, 9, 148, 154, 0, 7, 9, 167, 0, 7, 33, 22, 5, 109, 181, 1, 102, 177]
abbrev dktX1_tell_1 : List UInt8 := dkwX1_tell_1 ++ []
def dkwX1_tell_0 : List UInt8 := [31, 33, 184, 1, 95, 55, 5, 42, 22, 5, 9, 148, 154, 0, 7, 9, 167, 0, 7, 31, 22, 5, 109]
abbrev dktX1_tell_0 : List UInt8 := dkwX1_tell_0 ++ dktX1_tell_1
theorem dksX1_tell_0 : cX1_tell.data.toList.drop 0 = dktX1_tell_0 := by decide +kernel
theorem dksX1_tell_1 : cX1_tell.data.toList.drop 23 = dktX1_tell_1 := dk_seg dksX1_tell_0 23 rfl rfl
theorem dX1_tell_0 : decode cX1_tell 0 = .ok (.lload_n 1, 1) := dk_31 (dk_at dksX1_tell_0 0 rfl rfl)
theorem dX1_tell_1 : decode cX1_tell 1 = .ok (.lload_n 3, 1) := dk_33 (dk_at dksX1_tell_0 1 rfl rfl)
theorem dX1_tell_2 : decode cX1_tell 2 = .ok (.invokestatic 351, 3) := dk_184 1 95 (dk_at dksX1_tell_0 2 rfl rfl)
theorem dX1_tell_5 : decode cX1_tell 5 = .ok (.lstore 5, 2) := dk_55 5 (dk_at dksX1_tell_0 5 rfl rfl)
theorem dX1_tell_7 : decode cX1_tell 7 = .ok (.aload_n 0, 1) := dk_42 (dk_at dksX1_tell_0 7 rfl rfl)
theorem dX1_tell_8 : decode cX1_tell 8 = .ok (.lload 5, 2) := dk_22 5 (dk_at dksX1_tell_0 8 rfl rfl)
theorem dX1_tell_10 : decode cX1_tell 10 = .ok (.lconst 0, 1) := dk_9 (dk_at dksX1_tell_0 10 rfl rfl)
theorem dX1_tell_11 : decode cX1_tell 11 = .ok (.lcmp, 1) := dk_148 (dk_at dksX1_tell_0 11 rfl rfl)
theorem dX1_tell_12 : decode cX1_tell 12 = .ok (.ifCond .ne 7, 3) := dk_154 0 7 (dk_at dksX1_tell_0 12 rfl rfl)
theorem dX1_tell_15 : decode cX1_tell 15 = .ok (.lconst 0, 1) := dk_9 (dk_at dksX1_tell_0 15 rfl rfl)
theorem dX1_tell_16 : decode cX1_tell 16 = .ok (.goto 7, 3) := dk_167 0 7 (dk_at dksX1_tell_0 16 rfl rfl)
theorem dX1_tell_19 : decode cX1_tell 19 = .ok (.lload_n 1, 1) := dk_31 (dk_at dksX1_tell_0 19 rfl rfl)
theorem dX1_tell_20 : decode cX1_tell 20 = .ok (.lload 5, 2) := dk_22 5 (dk_at dksX1_tell_0 20 rfl rfl)
theorem dX1_tell_22 : decode cX1_tell 22 = .ok (.ldiv, 1) := dk_109 (dk_at dksX1_tell_0 22 rfl rfl)
theorem dX1_tell_23 : decode cX1_tell 23 = .ok (.putfield 355, 3) := dk_181 1 99 (dk_at dksX1_tell_1 0 rfl rfl)
theorem dX1_tell_26 : decode cX1_tell 26 = .ok (.aload_n 0, 1) := dk_42 (dk_at dksX1_tell_1 3 rfl rfl)
theorem dX1_tell_27 : decode cX1_tell 27 = .ok (.lload 5, 2) := dk_22 5 (dk_at dksX1_tell_1 4 rfl rfl)
theorem dX1_tell_29 : decode cX1_tell 29 = .ok (.lconst 0, 1) := dk_9 (dk_at dksX1_tell_1 6 rfl rfl)
theorem dX1_tell_30 : decode cX1_tell 30 = .ok (.lcmp, 1) := dk_148 (dk_at dksX1_tell_1 7 rfl rfl)
theorem dX1_tell_31 : decode cX1_tell 31 = .ok (.ifCond .ne 7, 3) := dk_154 0 7 (dk_at dksX1_tell_1 8 rfl rfl)
theorem dX1_tell_34 : decode cX1_tell 34 = .ok (.lconst 0, 1) := dk_9 (dk_at dksX1_tell_1 11 rfl rfl)
theorem dX1_tell_35 : decode cX1_tell 35 = .ok (.goto 7, 3) := dk_167 0 7 (dk_at dksX1_tell_1 12 rfl rfl)
theorem dX1_tell_38 : decode cX1_tell 38 = .ok (.lload_n 3, 1) := dk_33 (dk_at dksX1_tell_1 15 rfl rfl)
theorem dX1_tell_39 : decode cX1_tell 39 = .ok (.lload 5, 2) := dk_22 5 (dk_at dksX1_tell_1 16 rfl rfl)
theorem dX1_tell_41 : decode cX1_tell 41 = .ok (.ldiv, 1) := dk_109 (dk_at dksX1_tell_1 18 rfl rfl)
theorem dX1_tell_42 : decode cX1_tell 42 = .ok (.putfield 358, 3) := dk_181 1 102 (dk_at dksX1_tell_1 19 rfl rfl)
theorem dX1_tell_45 : decode cX1_tell 45 = .ok (.return_, 1) := dk_177 (dk_at dksX1_tell_1 22 rfl rfl)
abbrev cX1_common : ByteArray := prog_1_method_36_code
def yX1_common : MethodName := ⟨RX1, "common", "(JJ)J"⟩
def dkwX1_common_1 : List UInt8 := [22, 8, 55, 6, 167, 255, 234, 22, 4, 173]
abbrev dktX1_common_1 : List UInt8 := dkwX1_common_1 ++ []
def dkwX1_common_0 : List UInt8 := [30, 55, 4, 32, 55, 6, 22, 6, 9, 148, 153, 0, 21, 22, 4, 22, 6, 113, 55, 8, 22, 6, 55, 4]
abbrev dktX1_common_0 : List UInt8 := dkwX1_common_0 ++ dktX1_common_1
theorem dksX1_common_0 : cX1_common.data.toList.drop 0 = dktX1_common_0 := by decide +kernel
theorem dksX1_common_1 : cX1_common.data.toList.drop 24 = dktX1_common_1 := dk_seg dksX1_common_0 24 rfl rfl
theorem dX1_common_0 : decode cX1_common 0 = .ok (.lload_n 0, 1) := dk_30 (dk_at dksX1_common_0 0 rfl rfl)
theorem dX1_common_1 : decode cX1_common 1 = .ok (.lstore 4, 2) := dk_55 4 (dk_at dksX1_common_0 1 rfl rfl)
theorem dX1_common_3 : decode cX1_common 3 = .ok (.lload_n 2, 1) := dk_32 (dk_at dksX1_common_0 3 rfl rfl)
theorem dX1_common_4 : decode cX1_common 4 = .ok (.lstore 6, 2) := dk_55 6 (dk_at dksX1_common_0 4 rfl rfl)
theorem dX1_common_6 : decode cX1_common 6 = .ok (.lload 6, 2) := dk_22 6 (dk_at dksX1_common_0 6 rfl rfl)
theorem dX1_common_8 : decode cX1_common 8 = .ok (.lconst 0, 1) := dk_9 (dk_at dksX1_common_0 8 rfl rfl)
theorem dX1_common_9 : decode cX1_common 9 = .ok (.lcmp, 1) := dk_148 (dk_at dksX1_common_0 9 rfl rfl)
theorem dX1_common_10 : decode cX1_common 10 = .ok (.ifCond .eq 21, 3) := dk_153 0 21 (dk_at dksX1_common_0 10 rfl rfl)
theorem dX1_common_13 : decode cX1_common 13 = .ok (.lload 4, 2) := dk_22 4 (dk_at dksX1_common_0 13 rfl rfl)
theorem dX1_common_15 : decode cX1_common 15 = .ok (.lload 6, 2) := dk_22 6 (dk_at dksX1_common_0 15 rfl rfl)
theorem dX1_common_17 : decode cX1_common 17 = .ok (.lrem, 1) := dk_113 (dk_at dksX1_common_0 17 rfl rfl)
theorem dX1_common_18 : decode cX1_common 18 = .ok (.lstore 8, 2) := dk_55 8 (dk_at dksX1_common_0 18 rfl rfl)
theorem dX1_common_20 : decode cX1_common 20 = .ok (.lload 6, 2) := dk_22 6 (dk_at dksX1_common_0 20 rfl rfl)
theorem dX1_common_22 : decode cX1_common 22 = .ok (.lstore 4, 2) := dk_55 4 (dk_at dksX1_common_0 22 rfl rfl)
theorem dX1_common_24 : decode cX1_common 24 = .ok (.lload 8, 2) := dk_22 8 (dk_at dksX1_common_1 0 rfl rfl)
theorem dX1_common_26 : decode cX1_common 26 = .ok (.lstore 6, 2) := dk_55 6 (dk_at dksX1_common_1 2 rfl rfl)
theorem dX1_common_28 : decode cX1_common 28 = .ok (.goto (-22), 3) := dk_167 255 234 (dk_at dksX1_common_1 4 rfl rfl)
theorem dX1_common_31 : decode cX1_common 31 = .ok (.lload 4, 2) := dk_22 4 (dk_at dksX1_common_1 7 rfl rfl)
theorem dX1_common_33 : decode cX1_common 33 = .ok (.lreturn, 1) := dk_173 (dk_at dksX1_common_1 9 rfl rfl)
abbrev cX1_count : ByteArray := prog_1_method_72_code
def yX1_count : MethodName := ⟨RX1, "count", "(I)J"⟩
def dkwX1_count_6 : List UInt8 := [180, 0, 22, 180, 0, 173, 182, 0, 162, 133, 173, 20, 1, 222, 173]
abbrev dktX1_count_6 : List UInt8 := dkwX1_count_6 ++ []
def dkwX1_count_5 : List UInt8 := [180, 0, 129, 182, 0, 162, 133, 173, 42, 180, 0, 22, 180, 1, 65, 173, 42, 180, 0, 185, 133, 173, 42]
abbrev dktX1_count_5 : List UInt8 := dkwX1_count_5 ++ dktX1_count_6
def dkwX1_count_4 : List UInt8 := [180, 0, 22, 180, 1, 123, 133, 173, 42, 180, 0, 22, 180, 1, 200, 182, 0, 162, 133, 173, 42, 180, 0, 22]
abbrev dktX1_count_4 : List UInt8 := dkwX1_count_4 ++ dktX1_count_5
def dkwX1_count_3 : List UInt8 := [180, 0, 22, 180, 0, 126, 133, 173, 17, 1, 0, 42, 180, 0, 22, 180, 0, 126, 184, 0, 238, 133, 173, 42]
abbrev dktX1_count_3 : List UInt8 := dkwX1_count_3 ++ dktX1_count_4
def dkwX1_count_2 : List UInt8 := [42, 180, 0, 22, 182, 0, 102, 133, 173, 42, 180, 0, 22, 180, 0, 159, 182, 0, 162, 133, 173, 42]
abbrev dktX1_count_2 : List UInt8 := dkwX1_count_2 ++ dktX1_count_3
def dkwX1_count_1 : List UInt8 := [170, 0, 0, 0, 0, 0, 159, 0, 0, 0, 0, 0, 0, 0, 9, 0, 0, 0, 55, 0, 0, 0, 64, 0, 0, 0, 76, 0, 0, 0, 85, 0, 0, 0, 100, 0, 0, 0, 109, 0, 0, 0, 121, 0, 0, 0, 133, 0, 0, 0, 141, 0, 0, 0, 147]
abbrev dktX1_count_1 : List UInt8 := dkwX1_count_1 ++ dktX1_count_2
def dkwX1_count_0 : List UInt8 := [27]
abbrev dktX1_count_0 : List UInt8 := dkwX1_count_0 ++ dktX1_count_1
theorem dksX1_count_0 : cX1_count.data.toList.drop 0 = dktX1_count_0 := by decide +kernel
theorem dksX1_count_1 : cX1_count.data.toList.drop 1 = dktX1_count_1 := dk_seg dksX1_count_0 1 rfl rfl
theorem dksX1_count_2 : cX1_count.data.toList.drop 56 = dktX1_count_2 := dk_seg dksX1_count_1 55 rfl rfl
theorem dksX1_count_3 : cX1_count.data.toList.drop 78 = dktX1_count_3 := dk_seg dksX1_count_2 22 rfl rfl
theorem dksX1_count_4 : cX1_count.data.toList.drop 102 = dktX1_count_4 := dk_seg dksX1_count_3 24 rfl rfl
theorem dksX1_count_5 : cX1_count.data.toList.drop 126 = dktX1_count_5 := dk_seg dksX1_count_4 24 rfl rfl
theorem dksX1_count_6 : cX1_count.data.toList.drop 149 = dktX1_count_6 := dk_seg dksX1_count_5 23 rfl rfl
theorem dX1_count_0 : decode cX1_count 0 = .ok (.iload_n 1, 1) := dk_27 (dk_at dksX1_count_0 0 rfl rfl)
theorem dX1_count_1 : decode cX1_count 1 = .ok (.tableswitch 159 0 9 #[55, 64, 76, 85, 100, 109, 121, 133, 141, 147], 55) := by decide +kernel
theorem dX1_count_56 : decode cX1_count 56 = .ok (.aload_n 0, 1) := dk_42 (dk_at dksX1_count_2 0 rfl rfl)
theorem dX1_count_57 : decode cX1_count 57 = .ok (.getfield 22, 3) := dk_180 0 22 (dk_at dksX1_count_2 1 rfl rfl)
theorem dX1_count_60 : decode cX1_count 60 = .ok (.invokevirtual 102, 3) := dk_182 0 102 (dk_at dksX1_count_2 4 rfl rfl)
theorem dX1_count_63 : decode cX1_count 63 = .ok (.i2l, 1) := dk_133 (dk_at dksX1_count_2 7 rfl rfl)
theorem dX1_count_64 : decode cX1_count 64 = .ok (.lreturn, 1) := dk_173 (dk_at dksX1_count_2 8 rfl rfl)
theorem dX1_count_65 : decode cX1_count 65 = .ok (.aload_n 0, 1) := dk_42 (dk_at dksX1_count_2 9 rfl rfl)
theorem dX1_count_66 : decode cX1_count 66 = .ok (.getfield 22, 3) := dk_180 0 22 (dk_at dksX1_count_2 10 rfl rfl)
theorem dX1_count_69 : decode cX1_count 69 = .ok (.getfield 159, 3) := dk_180 0 159 (dk_at dksX1_count_2 13 rfl rfl)
theorem dX1_count_72 : decode cX1_count 72 = .ok (.invokevirtual 162, 3) := dk_182 0 162 (dk_at dksX1_count_2 16 rfl rfl)
theorem dX1_count_75 : decode cX1_count 75 = .ok (.i2l, 1) := dk_133 (dk_at dksX1_count_2 19 rfl rfl)
theorem dX1_count_76 : decode cX1_count 76 = .ok (.lreturn, 1) := dk_173 (dk_at dksX1_count_2 20 rfl rfl)
theorem dX1_count_77 : decode cX1_count 77 = .ok (.aload_n 0, 1) := dk_42 (dk_at dksX1_count_2 21 rfl rfl)
theorem dX1_count_78 : decode cX1_count 78 = .ok (.getfield 22, 3) := dk_180 0 22 (dk_at dksX1_count_3 0 rfl rfl)
theorem dX1_count_81 : decode cX1_count 81 = .ok (.getfield 126, 3) := dk_180 0 126 (dk_at dksX1_count_3 3 rfl rfl)
theorem dX1_count_84 : decode cX1_count 84 = .ok (.i2l, 1) := dk_133 (dk_at dksX1_count_3 6 rfl rfl)
theorem dX1_count_85 : decode cX1_count 85 = .ok (.lreturn, 1) := dk_173 (dk_at dksX1_count_3 7 rfl rfl)
theorem dX1_count_86 : decode cX1_count 86 = .ok (.sipush 256, 3) := dk_17 1 0 (dk_at dksX1_count_3 8 rfl rfl)
theorem dX1_count_89 : decode cX1_count 89 = .ok (.aload_n 0, 1) := dk_42 (dk_at dksX1_count_3 11 rfl rfl)
theorem dX1_count_90 : decode cX1_count 90 = .ok (.getfield 22, 3) := dk_180 0 22 (dk_at dksX1_count_3 12 rfl rfl)
theorem dX1_count_93 : decode cX1_count 93 = .ok (.getfield 126, 3) := dk_180 0 126 (dk_at dksX1_count_3 15 rfl rfl)
theorem dX1_count_96 : decode cX1_count 96 = .ok (.invokestatic 238, 3) := dk_184 0 238 (dk_at dksX1_count_3 18 rfl rfl)
theorem dX1_count_99 : decode cX1_count 99 = .ok (.i2l, 1) := dk_133 (dk_at dksX1_count_3 21 rfl rfl)
theorem dX1_count_100 : decode cX1_count 100 = .ok (.lreturn, 1) := dk_173 (dk_at dksX1_count_3 22 rfl rfl)
theorem dX1_count_101 : decode cX1_count 101 = .ok (.aload_n 0, 1) := dk_42 (dk_at dksX1_count_3 23 rfl rfl)
theorem dX1_count_102 : decode cX1_count 102 = .ok (.getfield 22, 3) := dk_180 0 22 (dk_at dksX1_count_4 0 rfl rfl)
theorem dX1_count_105 : decode cX1_count 105 = .ok (.getfield 379, 3) := dk_180 1 123 (dk_at dksX1_count_4 3 rfl rfl)
theorem dX1_count_108 : decode cX1_count 108 = .ok (.i2l, 1) := dk_133 (dk_at dksX1_count_4 6 rfl rfl)
theorem dX1_count_109 : decode cX1_count 109 = .ok (.lreturn, 1) := dk_173 (dk_at dksX1_count_4 7 rfl rfl)
theorem dX1_count_110 : decode cX1_count 110 = .ok (.aload_n 0, 1) := dk_42 (dk_at dksX1_count_4 8 rfl rfl)
theorem dX1_count_111 : decode cX1_count 111 = .ok (.getfield 22, 3) := dk_180 0 22 (dk_at dksX1_count_4 9 rfl rfl)
theorem dX1_count_114 : decode cX1_count 114 = .ok (.getfield 456, 3) := dk_180 1 200 (dk_at dksX1_count_4 12 rfl rfl)
theorem dX1_count_117 : decode cX1_count 117 = .ok (.invokevirtual 162, 3) := dk_182 0 162 (dk_at dksX1_count_4 15 rfl rfl)
theorem dX1_count_120 : decode cX1_count 120 = .ok (.i2l, 1) := dk_133 (dk_at dksX1_count_4 18 rfl rfl)
theorem dX1_count_121 : decode cX1_count 121 = .ok (.lreturn, 1) := dk_173 (dk_at dksX1_count_4 19 rfl rfl)
theorem dX1_count_122 : decode cX1_count 122 = .ok (.aload_n 0, 1) := dk_42 (dk_at dksX1_count_4 20 rfl rfl)
theorem dX1_count_123 : decode cX1_count 123 = .ok (.getfield 22, 3) := dk_180 0 22 (dk_at dksX1_count_4 21 rfl rfl)
theorem dX1_count_126 : decode cX1_count 126 = .ok (.getfield 129, 3) := dk_180 0 129 (dk_at dksX1_count_5 0 rfl rfl)
theorem dX1_count_129 : decode cX1_count 129 = .ok (.invokevirtual 162, 3) := dk_182 0 162 (dk_at dksX1_count_5 3 rfl rfl)
theorem dX1_count_132 : decode cX1_count 132 = .ok (.i2l, 1) := dk_133 (dk_at dksX1_count_5 6 rfl rfl)
theorem dX1_count_133 : decode cX1_count 133 = .ok (.lreturn, 1) := dk_173 (dk_at dksX1_count_5 7 rfl rfl)
theorem dX1_count_134 : decode cX1_count 134 = .ok (.aload_n 0, 1) := dk_42 (dk_at dksX1_count_5 8 rfl rfl)
theorem dX1_count_135 : decode cX1_count 135 = .ok (.getfield 22, 3) := dk_180 0 22 (dk_at dksX1_count_5 9 rfl rfl)
theorem dX1_count_138 : decode cX1_count 138 = .ok (.getfield 321, 3) := dk_180 1 65 (dk_at dksX1_count_5 12 rfl rfl)
theorem dX1_count_141 : decode cX1_count 141 = .ok (.lreturn, 1) := dk_173 (dk_at dksX1_count_5 15 rfl rfl)
theorem dX1_count_142 : decode cX1_count 142 = .ok (.aload_n 0, 1) := dk_42 (dk_at dksX1_count_5 16 rfl rfl)
theorem dX1_count_143 : decode cX1_count 143 = .ok (.getfield 185, 3) := dk_180 0 185 (dk_at dksX1_count_5 17 rfl rfl)
theorem dX1_count_146 : decode cX1_count 146 = .ok (.i2l, 1) := dk_133 (dk_at dksX1_count_5 20 rfl rfl)
theorem dX1_count_147 : decode cX1_count 147 = .ok (.lreturn, 1) := dk_173 (dk_at dksX1_count_5 21 rfl rfl)
theorem dX1_count_148 : decode cX1_count 148 = .ok (.aload_n 0, 1) := dk_42 (dk_at dksX1_count_5 22 rfl rfl)
theorem dX1_count_149 : decode cX1_count 149 = .ok (.getfield 22, 3) := dk_180 0 22 (dk_at dksX1_count_6 0 rfl rfl)
theorem dX1_count_152 : decode cX1_count 152 = .ok (.getfield 173, 3) := dk_180 0 173 (dk_at dksX1_count_6 3 rfl rfl)
theorem dX1_count_155 : decode cX1_count 155 = .ok (.invokevirtual 162, 3) := dk_182 0 162 (dk_at dksX1_count_6 6 rfl rfl)
theorem dX1_count_158 : decode cX1_count 158 = .ok (.i2l, 1) := dk_133 (dk_at dksX1_count_6 9 rfl rfl)
theorem dX1_count_159 : decode cX1_count 159 = .ok (.lreturn, 1) := dk_173 (dk_at dksX1_count_6 10 rfl rfl)
theorem dX1_count_160 : decode cX1_count 160 = .ok (.ldc2_w 478, 3) := dk_20 1 222 (dk_at dksX1_count_6 11 rfl rfl)
theorem dX1_count_163 : decode cX1_count 163 = .ok (.lreturn, 1) := dk_173 (dk_at dksX1_count_6 14 rfl rfl)
abbrev cX1_station : ByteArray := prog_1_method_9_code
def yX1_station : MethodName := ⟨RX1, "station", "(III)I"⟩
def dkwX1_station_5 : List UInt8 := [4, 100, 172]
abbrev dktX1_station_5 : List UInt8 := dkwX1_station_5 ++ []
def dkwX1_station_4 : List UInt8 := [180, 0, 114, 187, 0, 124, 89, 27, 28, 29, 183, 0, 146, 182, 0, 149, 87, 42, 180, 0, 22, 182, 0, 102]
abbrev dktX1_station_4 : List UInt8 := dkwX1_station_4 ++ dktX1_station_5
def dkwX1_station_3 : List UInt8 := [167, 0, 4, 3, 184, 0, 143, 42, 180, 0, 22, 182, 0, 102, 7, 160, 0, 5, 2, 172, 42, 180, 0, 22]
abbrev dktX1_station_3 : List UInt8 := dkwX1_station_3 ++ dktX1_station_4
def dkwX1_station_2 : List UInt8 := [20, 0, 139, 184, 0, 106, 153, 0, 19, 29, 133, 9, 20, 0, 141, 184, 0, 106, 153, 0, 7, 4]
abbrev dktX1_station_2 : List UInt8 := dkwX1_station_2 ++ dktX1_station_3
def dkwX1_station_1 : List UInt8 := [167, 0, 4, 3, 184, 0, 136, 27, 133, 9, 20, 0, 139, 184, 0, 106, 153, 0, 31, 28, 133, 9]
abbrev dktX1_station_1 : List UInt8 := dkwX1_station_1 ++ dktX1_station_2
def dkwX1_station_0 : List UInt8 := [42, 180, 0, 22, 180, 0, 126, 154, 0, 20, 42, 180, 0, 22, 180, 0, 129, 182, 0, 132, 153, 0, 7, 4]
abbrev dktX1_station_0 : List UInt8 := dkwX1_station_0 ++ dktX1_station_1
theorem dksX1_station_0 : cX1_station.data.toList.drop 0 = dktX1_station_0 := by decide +kernel
theorem dksX1_station_1 : cX1_station.data.toList.drop 24 = dktX1_station_1 := dk_seg dksX1_station_0 24 rfl rfl
theorem dksX1_station_2 : cX1_station.data.toList.drop 46 = dktX1_station_2 := dk_seg dksX1_station_1 22 rfl rfl
theorem dksX1_station_3 : cX1_station.data.toList.drop 68 = dktX1_station_3 := dk_seg dksX1_station_2 22 rfl rfl
theorem dksX1_station_4 : cX1_station.data.toList.drop 92 = dktX1_station_4 := dk_seg dksX1_station_3 24 rfl rfl
theorem dksX1_station_5 : cX1_station.data.toList.drop 116 = dktX1_station_5 := dk_seg dksX1_station_4 24 rfl rfl
theorem dX1_station_0 : decode cX1_station 0 = .ok (.aload_n 0, 1) := dk_42 (dk_at dksX1_station_0 0 rfl rfl)
theorem dX1_station_1 : decode cX1_station 1 = .ok (.getfield 22, 3) := dk_180 0 22 (dk_at dksX1_station_0 1 rfl rfl)
theorem dX1_station_4 : decode cX1_station 4 = .ok (.getfield 126, 3) := dk_180 0 126 (dk_at dksX1_station_0 4 rfl rfl)
theorem dX1_station_7 : decode cX1_station 7 = .ok (.ifCond .ne 20, 3) := dk_154 0 20 (dk_at dksX1_station_0 7 rfl rfl)
theorem dX1_station_10 : decode cX1_station 10 = .ok (.aload_n 0, 1) := dk_42 (dk_at dksX1_station_0 10 rfl rfl)
theorem dX1_station_11 : decode cX1_station 11 = .ok (.getfield 22, 3) := dk_180 0 22 (dk_at dksX1_station_0 11 rfl rfl)
theorem dX1_station_14 : decode cX1_station 14 = .ok (.getfield 129, 3) := dk_180 0 129 (dk_at dksX1_station_0 14 rfl rfl)
theorem dX1_station_17 : decode cX1_station 17 = .ok (.invokevirtual 132, 3) := dk_182 0 132 (dk_at dksX1_station_0 17 rfl rfl)
theorem dX1_station_20 : decode cX1_station 20 = .ok (.ifCond .eq 7, 3) := dk_153 0 7 (dk_at dksX1_station_0 20 rfl rfl)
theorem dX1_station_23 : decode cX1_station 23 = .ok (.iconst 1, 1) := dk_4 (dk_at dksX1_station_0 23 rfl rfl)
theorem dX1_station_24 : decode cX1_station 24 = .ok (.goto 4, 3) := dk_167 0 4 (dk_at dksX1_station_1 0 rfl rfl)
theorem dX1_station_27 : decode cX1_station 27 = .ok (.iconst 0, 1) := dk_3 (dk_at dksX1_station_1 3 rfl rfl)
theorem dX1_station_28 : decode cX1_station 28 = .ok (.invokestatic 136, 3) := dk_184 0 136 (dk_at dksX1_station_1 4 rfl rfl)
theorem dX1_station_31 : decode cX1_station 31 = .ok (.iload_n 1, 1) := dk_27 (dk_at dksX1_station_1 7 rfl rfl)
theorem dX1_station_32 : decode cX1_station 32 = .ok (.i2l, 1) := dk_133 (dk_at dksX1_station_1 8 rfl rfl)
theorem dX1_station_33 : decode cX1_station 33 = .ok (.lconst 0, 1) := dk_9 (dk_at dksX1_station_1 9 rfl rfl)
theorem dX1_station_34 : decode cX1_station 34 = .ok (.ldc2_w 139, 3) := dk_20 0 139 (dk_at dksX1_station_1 10 rfl rfl)
theorem dX1_station_37 : decode cX1_station 37 = .ok (.invokestatic 106, 3) := dk_184 0 106 (dk_at dksX1_station_1 13 rfl rfl)
theorem dX1_station_40 : decode cX1_station 40 = .ok (.ifCond .eq 31, 3) := dk_153 0 31 (dk_at dksX1_station_1 16 rfl rfl)
theorem dX1_station_43 : decode cX1_station 43 = .ok (.iload_n 2, 1) := dk_28 (dk_at dksX1_station_1 19 rfl rfl)
theorem dX1_station_44 : decode cX1_station 44 = .ok (.i2l, 1) := dk_133 (dk_at dksX1_station_1 20 rfl rfl)
theorem dX1_station_45 : decode cX1_station 45 = .ok (.lconst 0, 1) := dk_9 (dk_at dksX1_station_1 21 rfl rfl)
theorem dX1_station_46 : decode cX1_station 46 = .ok (.ldc2_w 139, 3) := dk_20 0 139 (dk_at dksX1_station_2 0 rfl rfl)
theorem dX1_station_49 : decode cX1_station 49 = .ok (.invokestatic 106, 3) := dk_184 0 106 (dk_at dksX1_station_2 3 rfl rfl)
theorem dX1_station_52 : decode cX1_station 52 = .ok (.ifCond .eq 19, 3) := dk_153 0 19 (dk_at dksX1_station_2 6 rfl rfl)
theorem dX1_station_55 : decode cX1_station 55 = .ok (.iload_n 3, 1) := dk_29 (dk_at dksX1_station_2 9 rfl rfl)
theorem dX1_station_56 : decode cX1_station 56 = .ok (.i2l, 1) := dk_133 (dk_at dksX1_station_2 10 rfl rfl)
theorem dX1_station_57 : decode cX1_station 57 = .ok (.lconst 0, 1) := dk_9 (dk_at dksX1_station_2 11 rfl rfl)
theorem dX1_station_58 : decode cX1_station 58 = .ok (.ldc2_w 141, 3) := dk_20 0 141 (dk_at dksX1_station_2 12 rfl rfl)
theorem dX1_station_61 : decode cX1_station 61 = .ok (.invokestatic 106, 3) := dk_184 0 106 (dk_at dksX1_station_2 15 rfl rfl)
theorem dX1_station_64 : decode cX1_station 64 = .ok (.ifCond .eq 7, 3) := dk_153 0 7 (dk_at dksX1_station_2 18 rfl rfl)
theorem dX1_station_67 : decode cX1_station 67 = .ok (.iconst 1, 1) := dk_4 (dk_at dksX1_station_2 21 rfl rfl)
theorem dX1_station_68 : decode cX1_station 68 = .ok (.goto 4, 3) := dk_167 0 4 (dk_at dksX1_station_3 0 rfl rfl)
theorem dX1_station_71 : decode cX1_station 71 = .ok (.iconst 0, 1) := dk_3 (dk_at dksX1_station_3 3 rfl rfl)
theorem dX1_station_72 : decode cX1_station 72 = .ok (.invokestatic 143, 3) := dk_184 0 143 (dk_at dksX1_station_3 4 rfl rfl)
theorem dX1_station_75 : decode cX1_station 75 = .ok (.aload_n 0, 1) := dk_42 (dk_at dksX1_station_3 7 rfl rfl)
theorem dX1_station_76 : decode cX1_station 76 = .ok (.getfield 22, 3) := dk_180 0 22 (dk_at dksX1_station_3 8 rfl rfl)
theorem dX1_station_79 : decode cX1_station 79 = .ok (.invokevirtual 102, 3) := dk_182 0 102 (dk_at dksX1_station_3 11 rfl rfl)
theorem dX1_station_82 : decode cX1_station 82 = .ok (.iconst 4, 1) := dk_7 (dk_at dksX1_station_3 14 rfl rfl)
theorem dX1_station_83 : decode cX1_station 83 = .ok (.if_icmp .ne 5, 3) := dk_160 0 5 (dk_at dksX1_station_3 15 rfl rfl)
theorem dX1_station_86 : decode cX1_station 86 = .ok (.iconst (-1), 1) := dk_2 (dk_at dksX1_station_3 18 rfl rfl)
theorem dX1_station_87 : decode cX1_station 87 = .ok (.ireturn, 1) := dk_172 (dk_at dksX1_station_3 19 rfl rfl)
theorem dX1_station_88 : decode cX1_station 88 = .ok (.aload_n 0, 1) := dk_42 (dk_at dksX1_station_3 20 rfl rfl)
theorem dX1_station_89 : decode cX1_station 89 = .ok (.getfield 22, 3) := dk_180 0 22 (dk_at dksX1_station_3 21 rfl rfl)
theorem dX1_station_92 : decode cX1_station 92 = .ok (.getfield 114, 3) := dk_180 0 114 (dk_at dksX1_station_4 0 rfl rfl)
theorem dX1_station_95 : decode cX1_station 95 = .ok (.new 124, 3) := dk_187 0 124 (dk_at dksX1_station_4 3 rfl rfl)
theorem dX1_station_98 : decode cX1_station 98 = .ok (.dup, 1) := dk_89 (dk_at dksX1_station_4 6 rfl rfl)
theorem dX1_station_99 : decode cX1_station 99 = .ok (.iload_n 1, 1) := dk_27 (dk_at dksX1_station_4 7 rfl rfl)
theorem dX1_station_100 : decode cX1_station 100 = .ok (.iload_n 2, 1) := dk_28 (dk_at dksX1_station_4 8 rfl rfl)
theorem dX1_station_101 : decode cX1_station 101 = .ok (.iload_n 3, 1) := dk_29 (dk_at dksX1_station_4 9 rfl rfl)
theorem dX1_station_102 : decode cX1_station 102 = .ok (.invokespecial 146, 3) := dk_183 0 146 (dk_at dksX1_station_4 10 rfl rfl)
theorem dX1_station_105 : decode cX1_station 105 = .ok (.invokevirtual 149, 3) := dk_182 0 149 (dk_at dksX1_station_4 13 rfl rfl)
theorem dX1_station_108 : decode cX1_station 108 = .ok (.pop, 1) := dk_87 (dk_at dksX1_station_4 16 rfl rfl)
theorem dX1_station_109 : decode cX1_station 109 = .ok (.aload_n 0, 1) := dk_42 (dk_at dksX1_station_4 17 rfl rfl)
theorem dX1_station_110 : decode cX1_station 110 = .ok (.getfield 22, 3) := dk_180 0 22 (dk_at dksX1_station_4 18 rfl rfl)
theorem dX1_station_113 : decode cX1_station 113 = .ok (.invokevirtual 102, 3) := dk_182 0 102 (dk_at dksX1_station_4 21 rfl rfl)
theorem dX1_station_116 : decode cX1_station 116 = .ok (.iconst 1, 1) := dk_4 (dk_at dksX1_station_5 0 rfl rfl)
theorem dX1_station_117 : decode cX1_station 117 = .ok (.isub, 1) := dk_100 (dk_at dksX1_station_5 1 rfl rfl)
theorem dX1_station_118 : decode cX1_station 118 = .ok (.ireturn, 1) := dk_172 (dk_at dksX1_station_5 2 rfl rfl)
abbrev cX1_can : ByteArray := prog_1_method_4_code
def yX1_can : MethodName := ⟨RX1, "can", "(Z)V"⟩
def dkwX1_can_0 : List UInt8 := [26, 154, 0, 11, 187, 0, 7, 89, 183, 0, 9, 191, 177]
abbrev dktX1_can_0 : List UInt8 := dkwX1_can_0 ++ []
theorem dksX1_can_0 : cX1_can.data.toList.drop 0 = dktX1_can_0 := by decide +kernel
theorem dX1_can_0 : decode cX1_can 0 = .ok (.iload_n 0, 1) := dk_26 (dk_at dksX1_can_0 0 rfl rfl)
theorem dX1_can_1 : decode cX1_can 1 = .ok (.ifCond .ne 11, 3) := dk_154 0 11 (dk_at dksX1_can_0 1 rfl rfl)
theorem dX1_can_4 : decode cX1_can 4 = .ok (.new 7, 3) := dk_187 0 7 (dk_at dksX1_can_0 4 rfl rfl)
theorem dX1_can_7 : decode cX1_can 7 = .ok (.dup, 1) := dk_89 (dk_at dksX1_can_0 7 rfl rfl)
theorem dX1_can_8 : decode cX1_can 8 = .ok (.invokespecial 9, 3) := dk_183 0 9 (dk_at dksX1_can_0 8 rfl rfl)
theorem dX1_can_11 : decode cX1_can 11 = .ok (.athrow, 1) := dk_191 (dk_at dksX1_can_0 11 rfl rfl)
theorem dX1_can_12 : decode cX1_can 12 = .ok (.return_, 1) := dk_177 (dk_at dksX1_can_0 12 rfl rfl)
abbrev cX1_isIn : ByteArray := prog_1_method_1_code
def yX1_isIn : MethodName := ⟨RX1, "isIn", "(JJJ)Z"⟩
def dkwX1_isIn_0 : List UInt8 := [30, 32, 148, 155, 0, 14, 30, 22, 4, 148, 157, 0, 7, 4, 167, 0, 4, 3, 172]
abbrev dktX1_isIn_0 : List UInt8 := dkwX1_isIn_0 ++ []
theorem dksX1_isIn_0 : cX1_isIn.data.toList.drop 0 = dktX1_isIn_0 := by decide +kernel
theorem dX1_isIn_0 : decode cX1_isIn 0 = .ok (.lload_n 0, 1) := dk_30 (dk_at dksX1_isIn_0 0 rfl rfl)
theorem dX1_isIn_1 : decode cX1_isIn 1 = .ok (.lload_n 2, 1) := dk_32 (dk_at dksX1_isIn_0 1 rfl rfl)
theorem dX1_isIn_2 : decode cX1_isIn 2 = .ok (.lcmp, 1) := dk_148 (dk_at dksX1_isIn_0 2 rfl rfl)
theorem dX1_isIn_3 : decode cX1_isIn 3 = .ok (.ifCond .lt 14, 3) := dk_155 0 14 (dk_at dksX1_isIn_0 3 rfl rfl)
theorem dX1_isIn_6 : decode cX1_isIn 6 = .ok (.lload_n 0, 1) := dk_30 (dk_at dksX1_isIn_0 6 rfl rfl)
theorem dX1_isIn_7 : decode cX1_isIn 7 = .ok (.lload 4, 2) := dk_22 4 (dk_at dksX1_isIn_0 7 rfl rfl)
theorem dX1_isIn_9 : decode cX1_isIn 9 = .ok (.lcmp, 1) := dk_148 (dk_at dksX1_isIn_0 9 rfl rfl)
theorem dX1_isIn_10 : decode cX1_isIn 10 = .ok (.ifCond .gt 7, 3) := dk_157 0 7 (dk_at dksX1_isIn_0 10 rfl rfl)
theorem dX1_isIn_13 : decode cX1_isIn 13 = .ok (.iconst 1, 1) := dk_4 (dk_at dksX1_isIn_0 13 rfl rfl)
theorem dX1_isIn_14 : decode cX1_isIn 14 = .ok (.goto 4, 3) := dk_167 0 4 (dk_at dksX1_isIn_0 14 rfl rfl)
theorem dX1_isIn_17 : decode cX1_isIn 17 = .ok (.iconst 0, 1) := dk_3 (dk_at dksX1_isIn_0 17 rfl rfl)
theorem dX1_isIn_18 : decode cX1_isIn 18 = .ok (.ireturn, 1) := dk_172 (dk_at dksX1_isIn_0 18 rfl rfl)
abbrev cX1_right : ByteArray := prog_1_method_3_code
def yX1_right : MethodName := ⟨RX1, "right", "(Z)V"⟩
def dkwX1_right_0 : List UInt8 := [26, 154, 0, 11, 187, 0, 1, 89, 183, 0, 3, 191, 177]
abbrev dktX1_right_0 : List UInt8 := dkwX1_right_0 ++ []
theorem dksX1_right_0 : cX1_right.data.toList.drop 0 = dktX1_right_0 := by decide +kernel
theorem dX1_right_0 : decode cX1_right 0 = .ok (.iload_n 0, 1) := dk_26 (dk_at dksX1_right_0 0 rfl rfl)
theorem dX1_right_1 : decode cX1_right 1 = .ok (.ifCond .ne 11, 3) := dk_154 0 11 (dk_at dksX1_right_0 1 rfl rfl)
theorem dX1_right_4 : decode cX1_right 4 = .ok (.new 1, 3) := dk_187 0 1 (dk_at dksX1_right_0 4 rfl rfl)
theorem dX1_right_7 : decode cX1_right 7 = .ok (.dup, 1) := dk_89 (dk_at dksX1_right_0 7 rfl rfl)
theorem dX1_right_8 : decode cX1_right 8 = .ok (.invokespecial 3, 3) := dk_183 0 3 (dk_at dksX1_right_0 8 rfl rfl)
theorem dX1_right_11 : decode cX1_right 11 = .ok (.athrow, 1) := dk_191 (dk_at dksX1_right_0 11 rfl rfl)
theorem dX1_right_12 : decode cX1_right 12 = .ok (.return_, 1) := dk_177 (dk_at dksX1_right_0 12 rfl rfl)
abbrev cX1_driver : ByteArray := prog_1_method_10_code
def yX1_driver : MethodName := ⟨RX1, "driver", "(IIII)I"⟩
def dkwX1_driver_4 : List UInt8 := [183, 0, 167, 182, 0, 149, 87, 42, 180, 0, 22, 180, 0, 159, 182, 0, 162, 4, 100, 172]
abbrev dktX1_driver_4 : List UInt8 := dkwX1_driver_4 ++ []
def dkwX1_driver_3 : List UInt8 := [16, 6, 160, 0, 5, 2, 172, 42, 180, 0, 22, 180, 0, 159, 187, 0, 165, 89, 27, 28, 29, 21, 4]
abbrev dktX1_driver_3 : List UInt8 := dkwX1_driver_3 ++ dktX1_driver_4
def dkwX1_driver_2 : List UInt8 := [184, 0, 106, 153, 0, 7, 4, 167, 0, 4, 3, 184, 0, 143, 42, 180, 0, 22, 180, 0, 159, 182, 0, 162]
abbrev dktX1_driver_2 : List UInt8 := dkwX1_driver_2 ++ dktX1_driver_3
def dkwX1_driver_1 : List UInt8 := [180, 0, 22, 182, 0, 102, 120, 4, 100, 133, 184, 0, 106, 153, 0, 20, 21, 4, 133, 9, 20, 0, 157]
abbrev dktX1_driver_1 : List UInt8 := dkwX1_driver_1 ++ dktX1_driver_2
def dkwX1_driver_0 : List UInt8 := [42, 28, 182, 0, 153, 87, 27, 133, 10, 20, 0, 139, 184, 0, 106, 153, 0, 41, 29, 133, 9, 4, 42]
abbrev dktX1_driver_0 : List UInt8 := dkwX1_driver_0 ++ dktX1_driver_1
theorem dksX1_driver_0 : cX1_driver.data.toList.drop 0 = dktX1_driver_0 := by decide +kernel
theorem dksX1_driver_1 : cX1_driver.data.toList.drop 23 = dktX1_driver_1 := dk_seg dksX1_driver_0 23 rfl rfl
theorem dksX1_driver_2 : cX1_driver.data.toList.drop 46 = dktX1_driver_2 := dk_seg dksX1_driver_1 23 rfl rfl
theorem dksX1_driver_3 : cX1_driver.data.toList.drop 70 = dktX1_driver_3 := dk_seg dksX1_driver_2 24 rfl rfl
theorem dksX1_driver_4 : cX1_driver.data.toList.drop 93 = dktX1_driver_4 := dk_seg dksX1_driver_3 23 rfl rfl
theorem dX1_driver_0 : decode cX1_driver 0 = .ok (.aload_n 0, 1) := dk_42 (dk_at dksX1_driver_0 0 rfl rfl)
theorem dX1_driver_1 : decode cX1_driver 1 = .ok (.iload_n 2, 1) := dk_28 (dk_at dksX1_driver_0 1 rfl rfl)
theorem dX1_driver_2 : decode cX1_driver 2 = .ok (.invokevirtual 153, 3) := dk_182 0 153 (dk_at dksX1_driver_0 2 rfl rfl)
theorem dX1_driver_5 : decode cX1_driver 5 = .ok (.pop, 1) := dk_87 (dk_at dksX1_driver_0 5 rfl rfl)
theorem dX1_driver_6 : decode cX1_driver 6 = .ok (.iload_n 1, 1) := dk_27 (dk_at dksX1_driver_0 6 rfl rfl)
theorem dX1_driver_7 : decode cX1_driver 7 = .ok (.i2l, 1) := dk_133 (dk_at dksX1_driver_0 7 rfl rfl)
theorem dX1_driver_8 : decode cX1_driver 8 = .ok (.lconst 1, 1) := dk_10 (dk_at dksX1_driver_0 8 rfl rfl)
theorem dX1_driver_9 : decode cX1_driver 9 = .ok (.ldc2_w 139, 3) := dk_20 0 139 (dk_at dksX1_driver_0 9 rfl rfl)
theorem dX1_driver_12 : decode cX1_driver 12 = .ok (.invokestatic 106, 3) := dk_184 0 106 (dk_at dksX1_driver_0 12 rfl rfl)
theorem dX1_driver_15 : decode cX1_driver 15 = .ok (.ifCond .eq 41, 3) := dk_153 0 41 (dk_at dksX1_driver_0 15 rfl rfl)
theorem dX1_driver_18 : decode cX1_driver 18 = .ok (.iload_n 3, 1) := dk_29 (dk_at dksX1_driver_0 18 rfl rfl)
theorem dX1_driver_19 : decode cX1_driver 19 = .ok (.i2l, 1) := dk_133 (dk_at dksX1_driver_0 19 rfl rfl)
theorem dX1_driver_20 : decode cX1_driver 20 = .ok (.lconst 0, 1) := dk_9 (dk_at dksX1_driver_0 20 rfl rfl)
theorem dX1_driver_21 : decode cX1_driver 21 = .ok (.iconst 1, 1) := dk_4 (dk_at dksX1_driver_0 21 rfl rfl)
theorem dX1_driver_22 : decode cX1_driver 22 = .ok (.aload_n 0, 1) := dk_42 (dk_at dksX1_driver_0 22 rfl rfl)
theorem dX1_driver_23 : decode cX1_driver 23 = .ok (.getfield 22, 3) := dk_180 0 22 (dk_at dksX1_driver_1 0 rfl rfl)
theorem dX1_driver_26 : decode cX1_driver 26 = .ok (.invokevirtual 102, 3) := dk_182 0 102 (dk_at dksX1_driver_1 3 rfl rfl)
theorem dX1_driver_29 : decode cX1_driver 29 = .ok (.ishl, 1) := dk_120 (dk_at dksX1_driver_1 6 rfl rfl)
theorem dX1_driver_30 : decode cX1_driver 30 = .ok (.iconst 1, 1) := dk_4 (dk_at dksX1_driver_1 7 rfl rfl)
theorem dX1_driver_31 : decode cX1_driver 31 = .ok (.isub, 1) := dk_100 (dk_at dksX1_driver_1 8 rfl rfl)
theorem dX1_driver_32 : decode cX1_driver 32 = .ok (.i2l, 1) := dk_133 (dk_at dksX1_driver_1 9 rfl rfl)
theorem dX1_driver_33 : decode cX1_driver 33 = .ok (.invokestatic 106, 3) := dk_184 0 106 (dk_at dksX1_driver_1 10 rfl rfl)
theorem dX1_driver_36 : decode cX1_driver 36 = .ok (.ifCond .eq 20, 3) := dk_153 0 20 (dk_at dksX1_driver_1 13 rfl rfl)
theorem dX1_driver_39 : decode cX1_driver 39 = .ok (.iload 4, 2) := dk_21 4 (dk_at dksX1_driver_1 16 rfl rfl)
theorem dX1_driver_41 : decode cX1_driver 41 = .ok (.i2l, 1) := dk_133 (dk_at dksX1_driver_1 18 rfl rfl)
theorem dX1_driver_42 : decode cX1_driver 42 = .ok (.lconst 0, 1) := dk_9 (dk_at dksX1_driver_1 19 rfl rfl)
theorem dX1_driver_43 : decode cX1_driver 43 = .ok (.ldc2_w 157, 3) := dk_20 0 157 (dk_at dksX1_driver_1 20 rfl rfl)
theorem dX1_driver_46 : decode cX1_driver 46 = .ok (.invokestatic 106, 3) := dk_184 0 106 (dk_at dksX1_driver_2 0 rfl rfl)
theorem dX1_driver_49 : decode cX1_driver 49 = .ok (.ifCond .eq 7, 3) := dk_153 0 7 (dk_at dksX1_driver_2 3 rfl rfl)
theorem dX1_driver_52 : decode cX1_driver 52 = .ok (.iconst 1, 1) := dk_4 (dk_at dksX1_driver_2 6 rfl rfl)
theorem dX1_driver_53 : decode cX1_driver 53 = .ok (.goto 4, 3) := dk_167 0 4 (dk_at dksX1_driver_2 7 rfl rfl)
theorem dX1_driver_56 : decode cX1_driver 56 = .ok (.iconst 0, 1) := dk_3 (dk_at dksX1_driver_2 10 rfl rfl)
theorem dX1_driver_57 : decode cX1_driver 57 = .ok (.invokestatic 143, 3) := dk_184 0 143 (dk_at dksX1_driver_2 11 rfl rfl)
theorem dX1_driver_60 : decode cX1_driver 60 = .ok (.aload_n 0, 1) := dk_42 (dk_at dksX1_driver_2 14 rfl rfl)
theorem dX1_driver_61 : decode cX1_driver 61 = .ok (.getfield 22, 3) := dk_180 0 22 (dk_at dksX1_driver_2 15 rfl rfl)
theorem dX1_driver_64 : decode cX1_driver 64 = .ok (.getfield 159, 3) := dk_180 0 159 (dk_at dksX1_driver_2 18 rfl rfl)
theorem dX1_driver_67 : decode cX1_driver 67 = .ok (.invokevirtual 162, 3) := dk_182 0 162 (dk_at dksX1_driver_2 21 rfl rfl)
theorem dX1_driver_70 : decode cX1_driver 70 = .ok (.bipush 6, 2) := dk_16 6 (dk_at dksX1_driver_3 0 rfl rfl)
theorem dX1_driver_72 : decode cX1_driver 72 = .ok (.if_icmp .ne 5, 3) := dk_160 0 5 (dk_at dksX1_driver_3 2 rfl rfl)
theorem dX1_driver_75 : decode cX1_driver 75 = .ok (.iconst (-1), 1) := dk_2 (dk_at dksX1_driver_3 5 rfl rfl)
theorem dX1_driver_76 : decode cX1_driver 76 = .ok (.ireturn, 1) := dk_172 (dk_at dksX1_driver_3 6 rfl rfl)
theorem dX1_driver_77 : decode cX1_driver 77 = .ok (.aload_n 0, 1) := dk_42 (dk_at dksX1_driver_3 7 rfl rfl)
theorem dX1_driver_78 : decode cX1_driver 78 = .ok (.getfield 22, 3) := dk_180 0 22 (dk_at dksX1_driver_3 8 rfl rfl)
theorem dX1_driver_81 : decode cX1_driver 81 = .ok (.getfield 159, 3) := dk_180 0 159 (dk_at dksX1_driver_3 11 rfl rfl)
theorem dX1_driver_84 : decode cX1_driver 84 = .ok (.new 165, 3) := dk_187 0 165 (dk_at dksX1_driver_3 14 rfl rfl)
theorem dX1_driver_87 : decode cX1_driver 87 = .ok (.dup, 1) := dk_89 (dk_at dksX1_driver_3 17 rfl rfl)
theorem dX1_driver_88 : decode cX1_driver 88 = .ok (.iload_n 1, 1) := dk_27 (dk_at dksX1_driver_3 18 rfl rfl)
theorem dX1_driver_89 : decode cX1_driver 89 = .ok (.iload_n 2, 1) := dk_28 (dk_at dksX1_driver_3 19 rfl rfl)
theorem dX1_driver_90 : decode cX1_driver 90 = .ok (.iload_n 3, 1) := dk_29 (dk_at dksX1_driver_3 20 rfl rfl)
theorem dX1_driver_91 : decode cX1_driver 91 = .ok (.iload 4, 2) := dk_21 4 (dk_at dksX1_driver_3 21 rfl rfl)
theorem dX1_driver_93 : decode cX1_driver 93 = .ok (.invokespecial 167, 3) := dk_183 0 167 (dk_at dksX1_driver_4 0 rfl rfl)
theorem dX1_driver_96 : decode cX1_driver 96 = .ok (.invokevirtual 149, 3) := dk_182 0 149 (dk_at dksX1_driver_4 3 rfl rfl)
theorem dX1_driver_99 : decode cX1_driver 99 = .ok (.pop, 1) := dk_87 (dk_at dksX1_driver_4 6 rfl rfl)
theorem dX1_driver_100 : decode cX1_driver 100 = .ok (.aload_n 0, 1) := dk_42 (dk_at dksX1_driver_4 7 rfl rfl)
theorem dX1_driver_101 : decode cX1_driver 101 = .ok (.getfield 22, 3) := dk_180 0 22 (dk_at dksX1_driver_4 8 rfl rfl)
theorem dX1_driver_104 : decode cX1_driver 104 = .ok (.getfield 159, 3) := dk_180 0 159 (dk_at dksX1_driver_4 11 rfl rfl)
theorem dX1_driver_107 : decode cX1_driver 107 = .ok (.invokevirtual 162, 3) := dk_182 0 162 (dk_at dksX1_driver_4 14 rfl rfl)
theorem dX1_driver_110 : decode cX1_driver 110 = .ok (.iconst 1, 1) := dk_4 (dk_at dksX1_driver_4 17 rfl rfl)
theorem dX1_driver_111 : decode cX1_driver 111 = .ok (.isub, 1) := dk_100 (dk_at dksX1_driver_4 18 rfl rfl)
theorem dX1_driver_112 : decode cX1_driver 112 = .ok (.ireturn, 1) := dk_172 (dk_at dksX1_driver_4 19 rfl rfl)
abbrev cX1_stationOf : ByteArray := prog_1_method_8_code
def yX1_stationOf : MethodName := ⟨RX1, "stationOf", "(I)LPumpCrossing$Station;"⟩
def dkwX1_stationOf_1 : List UInt8 := [180, 0, 114, 27, 182, 0, 118, 192, 0, 124, 176]
abbrev dktX1_stationOf_1 : List UInt8 := dkwX1_stationOf_1 ++ []
def dkwX1_stationOf_0 : List UInt8 := [27, 133, 9, 42, 180, 0, 22, 182, 0, 102, 4, 100, 133, 184, 0, 106, 184, 0, 110, 42, 180, 0, 22]
abbrev dktX1_stationOf_0 : List UInt8 := dkwX1_stationOf_0 ++ dktX1_stationOf_1
theorem dksX1_stationOf_0 : cX1_stationOf.data.toList.drop 0 = dktX1_stationOf_0 := by decide +kernel
theorem dksX1_stationOf_1 : cX1_stationOf.data.toList.drop 23 = dktX1_stationOf_1 := dk_seg dksX1_stationOf_0 23 rfl rfl
theorem dX1_stationOf_0 : decode cX1_stationOf 0 = .ok (.iload_n 1, 1) := dk_27 (dk_at dksX1_stationOf_0 0 rfl rfl)
theorem dX1_stationOf_1 : decode cX1_stationOf 1 = .ok (.i2l, 1) := dk_133 (dk_at dksX1_stationOf_0 1 rfl rfl)
theorem dX1_stationOf_2 : decode cX1_stationOf 2 = .ok (.lconst 0, 1) := dk_9 (dk_at dksX1_stationOf_0 2 rfl rfl)
theorem dX1_stationOf_3 : decode cX1_stationOf 3 = .ok (.aload_n 0, 1) := dk_42 (dk_at dksX1_stationOf_0 3 rfl rfl)
theorem dX1_stationOf_4 : decode cX1_stationOf 4 = .ok (.getfield 22, 3) := dk_180 0 22 (dk_at dksX1_stationOf_0 4 rfl rfl)
theorem dX1_stationOf_7 : decode cX1_stationOf 7 = .ok (.invokevirtual 102, 3) := dk_182 0 102 (dk_at dksX1_stationOf_0 7 rfl rfl)
theorem dX1_stationOf_10 : decode cX1_stationOf 10 = .ok (.iconst 1, 1) := dk_4 (dk_at dksX1_stationOf_0 10 rfl rfl)
theorem dX1_stationOf_11 : decode cX1_stationOf 11 = .ok (.isub, 1) := dk_100 (dk_at dksX1_stationOf_0 11 rfl rfl)
theorem dX1_stationOf_12 : decode cX1_stationOf 12 = .ok (.i2l, 1) := dk_133 (dk_at dksX1_stationOf_0 12 rfl rfl)
theorem dX1_stationOf_13 : decode cX1_stationOf 13 = .ok (.invokestatic 106, 3) := dk_184 0 106 (dk_at dksX1_stationOf_0 13 rfl rfl)
theorem dX1_stationOf_16 : decode cX1_stationOf 16 = .ok (.invokestatic 110, 3) := dk_184 0 110 (dk_at dksX1_stationOf_0 16 rfl rfl)
theorem dX1_stationOf_19 : decode cX1_stationOf 19 = .ok (.aload_n 0, 1) := dk_42 (dk_at dksX1_stationOf_0 19 rfl rfl)
theorem dX1_stationOf_20 : decode cX1_stationOf 20 = .ok (.getfield 22, 3) := dk_180 0 22 (dk_at dksX1_stationOf_0 20 rfl rfl)
theorem dX1_stationOf_23 : decode cX1_stationOf 23 = .ok (.getfield 114, 3) := dk_180 0 114 (dk_at dksX1_stationOf_1 0 rfl rfl)
theorem dX1_stationOf_26 : decode cX1_stationOf 26 = .ok (.iload_n 1, 1) := dk_27 (dk_at dksX1_stationOf_1 3 rfl rfl)
theorem dX1_stationOf_27 : decode cX1_stationOf 27 = .ok (.invokevirtual 118, 3) := dk_182 0 118 (dk_at dksX1_stationOf_1 4 rfl rfl)
theorem dX1_stationOf_30 : decode cX1_stationOf 30 = .ok (.checkcast 124, 3) := dk_192 0 124 (dk_at dksX1_stationOf_1 7 rfl rfl)
theorem dX1_stationOf_33 : decode cX1_stationOf 33 = .ok (.areturn, 1) := dk_176 (dk_at dksX1_stationOf_1 10 rfl rfl)
abbrev cX1_there : ByteArray := prog_1_method_5_code
def yX1_there : MethodName := ⟨RX1, "there", "(Z)V"⟩
def dkwX1_there_0 : List UInt8 := [26, 154, 0, 11, 187, 0, 10, 89, 183, 0, 12, 191, 177]
abbrev dktX1_there_0 : List UInt8 := dkwX1_there_0 ++ []
theorem dksX1_there_0 : cX1_there.data.toList.drop 0 = dktX1_there_0 := by decide +kernel
theorem dX1_there_0 : decode cX1_there 0 = .ok (.iload_n 0, 1) := dk_26 (dk_at dksX1_there_0 0 rfl rfl)
theorem dX1_there_1 : decode cX1_there 1 = .ok (.ifCond .ne 11, 3) := dk_154 0 11 (dk_at dksX1_there_0 1 rfl rfl)
theorem dX1_there_4 : decode cX1_there 4 = .ok (.new 10, 3) := dk_187 0 10 (dk_at dksX1_there_0 4 rfl rfl)
theorem dX1_there_7 : decode cX1_there 7 = .ok (.dup, 1) := dk_89 (dk_at dksX1_there_0 7 rfl rfl)
theorem dX1_there_8 : decode cX1_there 8 = .ok (.invokespecial 12, 3) := dk_183 0 12 (dk_at dksX1_there_0 8 rfl rfl)
theorem dX1_there_11 : decode cX1_there 11 = .ok (.athrow, 1) := dk_191 (dk_at dksX1_there_0 11 rfl rfl)
theorem dX1_there_12 : decode cX1_there 12 = .ok (.return_, 1) := dk_177 (dk_at dksX1_there_0 12 rfl rfl)
abbrev cX1_cost : ByteArray := prog_1_method_11_code
def yX1_cost : MethodName := ⟨RX1, "cost", "(II)I"⟩
def dkwX1_cost_4 : List UInt8 := [21, 4, 172]
abbrev dktX1_cost_4 : List UInt8 := dkwX1_cost_4 ++ []
def dkwX1_cost_3 : List UInt8 := [187, 0, 179, 89, 27, 42, 180, 0, 22, 180, 0, 126, 28, 21, 4, 100, 183, 0, 181, 182, 0, 149, 87]
abbrev dktX1_cost_3 : List UInt8 := dkwX1_cost_3 ++ dktX1_cost_4
def dkwX1_cost_2 : List UInt8 := [16, 10, 160, 0, 15, 42, 180, 0, 22, 180, 0, 173, 3, 182, 0, 176, 87, 42, 180, 0, 22, 180, 0, 173]
abbrev dktX1_cost_2 : List UInt8 := dkwX1_cost_2 ++ dktX1_cost_3
def dkwX1_cost_1 : List UInt8 := [45, 28, 181, 0, 170, 28, 21, 4, 160, 0, 6, 21, 4, 172, 42, 180, 0, 22, 180, 0, 173, 182, 0, 162]
abbrev dktX1_cost_1 : List UInt8 := dkwX1_cost_1 ++ dktX1_cost_2
def dkwX1_cost_0 : List UInt8 := [42, 27, 182, 0, 153, 78, 28, 133, 9, 20, 0, 139, 184, 0, 106, 184, 0, 143, 45, 180, 0, 170, 54, 4]
abbrev dktX1_cost_0 : List UInt8 := dkwX1_cost_0 ++ dktX1_cost_1
theorem dksX1_cost_0 : cX1_cost.data.toList.drop 0 = dktX1_cost_0 := by decide +kernel
theorem dksX1_cost_1 : cX1_cost.data.toList.drop 24 = dktX1_cost_1 := dk_seg dksX1_cost_0 24 rfl rfl
theorem dksX1_cost_2 : cX1_cost.data.toList.drop 48 = dktX1_cost_2 := dk_seg dksX1_cost_1 24 rfl rfl
theorem dksX1_cost_3 : cX1_cost.data.toList.drop 72 = dktX1_cost_3 := dk_seg dksX1_cost_2 24 rfl rfl
theorem dksX1_cost_4 : cX1_cost.data.toList.drop 95 = dktX1_cost_4 := dk_seg dksX1_cost_3 23 rfl rfl
theorem dX1_cost_0 : decode cX1_cost 0 = .ok (.aload_n 0, 1) := dk_42 (dk_at dksX1_cost_0 0 rfl rfl)
theorem dX1_cost_1 : decode cX1_cost 1 = .ok (.iload_n 1, 1) := dk_27 (dk_at dksX1_cost_0 1 rfl rfl)
theorem dX1_cost_2 : decode cX1_cost 2 = .ok (.invokevirtual 153, 3) := dk_182 0 153 (dk_at dksX1_cost_0 2 rfl rfl)
theorem dX1_cost_5 : decode cX1_cost 5 = .ok (.astore_n 3, 1) := dk_78 (dk_at dksX1_cost_0 5 rfl rfl)
theorem dX1_cost_6 : decode cX1_cost 6 = .ok (.iload_n 2, 1) := dk_28 (dk_at dksX1_cost_0 6 rfl rfl)
theorem dX1_cost_7 : decode cX1_cost 7 = .ok (.i2l, 1) := dk_133 (dk_at dksX1_cost_0 7 rfl rfl)
theorem dX1_cost_8 : decode cX1_cost 8 = .ok (.lconst 0, 1) := dk_9 (dk_at dksX1_cost_0 8 rfl rfl)
theorem dX1_cost_9 : decode cX1_cost 9 = .ok (.ldc2_w 139, 3) := dk_20 0 139 (dk_at dksX1_cost_0 9 rfl rfl)
theorem dX1_cost_12 : decode cX1_cost 12 = .ok (.invokestatic 106, 3) := dk_184 0 106 (dk_at dksX1_cost_0 12 rfl rfl)
theorem dX1_cost_15 : decode cX1_cost 15 = .ok (.invokestatic 143, 3) := dk_184 0 143 (dk_at dksX1_cost_0 15 rfl rfl)
theorem dX1_cost_18 : decode cX1_cost 18 = .ok (.aload_n 3, 1) := dk_45 (dk_at dksX1_cost_0 18 rfl rfl)
theorem dX1_cost_19 : decode cX1_cost 19 = .ok (.getfield 170, 3) := dk_180 0 170 (dk_at dksX1_cost_0 19 rfl rfl)
theorem dX1_cost_22 : decode cX1_cost 22 = .ok (.istore 4, 2) := dk_54 4 (dk_at dksX1_cost_0 22 rfl rfl)
theorem dX1_cost_24 : decode cX1_cost 24 = .ok (.aload_n 3, 1) := dk_45 (dk_at dksX1_cost_1 0 rfl rfl)
theorem dX1_cost_25 : decode cX1_cost 25 = .ok (.iload_n 2, 1) := dk_28 (dk_at dksX1_cost_1 1 rfl rfl)
theorem dX1_cost_26 : decode cX1_cost 26 = .ok (.putfield 170, 3) := dk_181 0 170 (dk_at dksX1_cost_1 2 rfl rfl)
theorem dX1_cost_29 : decode cX1_cost 29 = .ok (.iload_n 2, 1) := dk_28 (dk_at dksX1_cost_1 5 rfl rfl)
theorem dX1_cost_30 : decode cX1_cost 30 = .ok (.iload 4, 2) := dk_21 4 (dk_at dksX1_cost_1 6 rfl rfl)
theorem dX1_cost_32 : decode cX1_cost 32 = .ok (.if_icmp .ne 6, 3) := dk_160 0 6 (dk_at dksX1_cost_1 8 rfl rfl)
theorem dX1_cost_35 : decode cX1_cost 35 = .ok (.iload 4, 2) := dk_21 4 (dk_at dksX1_cost_1 11 rfl rfl)
theorem dX1_cost_37 : decode cX1_cost 37 = .ok (.ireturn, 1) := dk_172 (dk_at dksX1_cost_1 13 rfl rfl)
theorem dX1_cost_38 : decode cX1_cost 38 = .ok (.aload_n 0, 1) := dk_42 (dk_at dksX1_cost_1 14 rfl rfl)
theorem dX1_cost_39 : decode cX1_cost 39 = .ok (.getfield 22, 3) := dk_180 0 22 (dk_at dksX1_cost_1 15 rfl rfl)
theorem dX1_cost_42 : decode cX1_cost 42 = .ok (.getfield 173, 3) := dk_180 0 173 (dk_at dksX1_cost_1 18 rfl rfl)
theorem dX1_cost_45 : decode cX1_cost 45 = .ok (.invokevirtual 162, 3) := dk_182 0 162 (dk_at dksX1_cost_1 21 rfl rfl)
theorem dX1_cost_48 : decode cX1_cost 48 = .ok (.bipush 10, 2) := dk_16 10 (dk_at dksX1_cost_2 0 rfl rfl)
theorem dX1_cost_50 : decode cX1_cost 50 = .ok (.if_icmp .ne 15, 3) := dk_160 0 15 (dk_at dksX1_cost_2 2 rfl rfl)
theorem dX1_cost_53 : decode cX1_cost 53 = .ok (.aload_n 0, 1) := dk_42 (dk_at dksX1_cost_2 5 rfl rfl)
theorem dX1_cost_54 : decode cX1_cost 54 = .ok (.getfield 22, 3) := dk_180 0 22 (dk_at dksX1_cost_2 6 rfl rfl)
theorem dX1_cost_57 : decode cX1_cost 57 = .ok (.getfield 173, 3) := dk_180 0 173 (dk_at dksX1_cost_2 9 rfl rfl)
theorem dX1_cost_60 : decode cX1_cost 60 = .ok (.iconst 0, 1) := dk_3 (dk_at dksX1_cost_2 12 rfl rfl)
theorem dX1_cost_61 : decode cX1_cost 61 = .ok (.invokevirtual 176, 3) := dk_182 0 176 (dk_at dksX1_cost_2 13 rfl rfl)
theorem dX1_cost_64 : decode cX1_cost 64 = .ok (.pop, 1) := dk_87 (dk_at dksX1_cost_2 16 rfl rfl)
theorem dX1_cost_65 : decode cX1_cost 65 = .ok (.aload_n 0, 1) := dk_42 (dk_at dksX1_cost_2 17 rfl rfl)
theorem dX1_cost_66 : decode cX1_cost 66 = .ok (.getfield 22, 3) := dk_180 0 22 (dk_at dksX1_cost_2 18 rfl rfl)
theorem dX1_cost_69 : decode cX1_cost 69 = .ok (.getfield 173, 3) := dk_180 0 173 (dk_at dksX1_cost_2 21 rfl rfl)
theorem dX1_cost_72 : decode cX1_cost 72 = .ok (.new 179, 3) := dk_187 0 179 (dk_at dksX1_cost_3 0 rfl rfl)
theorem dX1_cost_75 : decode cX1_cost 75 = .ok (.dup, 1) := dk_89 (dk_at dksX1_cost_3 3 rfl rfl)
theorem dX1_cost_76 : decode cX1_cost 76 = .ok (.iload_n 1, 1) := dk_27 (dk_at dksX1_cost_3 4 rfl rfl)
theorem dX1_cost_77 : decode cX1_cost 77 = .ok (.aload_n 0, 1) := dk_42 (dk_at dksX1_cost_3 5 rfl rfl)
theorem dX1_cost_78 : decode cX1_cost 78 = .ok (.getfield 22, 3) := dk_180 0 22 (dk_at dksX1_cost_3 6 rfl rfl)
theorem dX1_cost_81 : decode cX1_cost 81 = .ok (.getfield 126, 3) := dk_180 0 126 (dk_at dksX1_cost_3 9 rfl rfl)
theorem dX1_cost_84 : decode cX1_cost 84 = .ok (.iload_n 2, 1) := dk_28 (dk_at dksX1_cost_3 12 rfl rfl)
theorem dX1_cost_85 : decode cX1_cost 85 = .ok (.iload 4, 2) := dk_21 4 (dk_at dksX1_cost_3 13 rfl rfl)
theorem dX1_cost_87 : decode cX1_cost 87 = .ok (.isub, 1) := dk_100 (dk_at dksX1_cost_3 15 rfl rfl)
theorem dX1_cost_88 : decode cX1_cost 88 = .ok (.invokespecial 181, 3) := dk_183 0 181 (dk_at dksX1_cost_3 16 rfl rfl)
theorem dX1_cost_91 : decode cX1_cost 91 = .ok (.invokevirtual 149, 3) := dk_182 0 149 (dk_at dksX1_cost_3 19 rfl rfl)
theorem dX1_cost_94 : decode cX1_cost 94 = .ok (.pop, 1) := dk_87 (dk_at dksX1_cost_3 22 rfl rfl)
theorem dX1_cost_95 : decode cX1_cost 95 = .ok (.iload 4, 2) := dk_21 4 (dk_at dksX1_cost_4 0 rfl rfl)
theorem dX1_cost_97 : decode cX1_cost 97 = .ok (.ireturn, 1) := dk_172 (dk_at dksX1_cost_4 2 rfl rfl)
abbrev cX1_late : ByteArray := prog_1_method_12_code
def yX1_late : MethodName := ⟨RX1, "late", "(II)I"⟩
def dkwX1_late_1 : List UInt8 := [45, 28, 181, 0, 182, 21, 4, 172]
abbrev dktX1_late_1 : List UInt8 := dkwX1_late_1 ++ []
def dkwX1_late_0 : List UInt8 := [42, 27, 182, 0, 153, 78, 28, 133, 9, 20, 0, 141, 184, 0, 106, 184, 0, 143, 45, 180, 0, 182, 54, 4]
abbrev dktX1_late_0 : List UInt8 := dkwX1_late_0 ++ dktX1_late_1
theorem dksX1_late_0 : cX1_late.data.toList.drop 0 = dktX1_late_0 := by decide +kernel
theorem dksX1_late_1 : cX1_late.data.toList.drop 24 = dktX1_late_1 := dk_seg dksX1_late_0 24 rfl rfl
theorem dX1_late_0 : decode cX1_late 0 = .ok (.aload_n 0, 1) := dk_42 (dk_at dksX1_late_0 0 rfl rfl)
theorem dX1_late_1 : decode cX1_late 1 = .ok (.iload_n 1, 1) := dk_27 (dk_at dksX1_late_0 1 rfl rfl)
theorem dX1_late_2 : decode cX1_late 2 = .ok (.invokevirtual 153, 3) := dk_182 0 153 (dk_at dksX1_late_0 2 rfl rfl)
theorem dX1_late_5 : decode cX1_late 5 = .ok (.astore_n 3, 1) := dk_78 (dk_at dksX1_late_0 5 rfl rfl)
theorem dX1_late_6 : decode cX1_late 6 = .ok (.iload_n 2, 1) := dk_28 (dk_at dksX1_late_0 6 rfl rfl)
theorem dX1_late_7 : decode cX1_late 7 = .ok (.i2l, 1) := dk_133 (dk_at dksX1_late_0 7 rfl rfl)
theorem dX1_late_8 : decode cX1_late 8 = .ok (.lconst 0, 1) := dk_9 (dk_at dksX1_late_0 8 rfl rfl)
theorem dX1_late_9 : decode cX1_late 9 = .ok (.ldc2_w 141, 3) := dk_20 0 141 (dk_at dksX1_late_0 9 rfl rfl)
theorem dX1_late_12 : decode cX1_late 12 = .ok (.invokestatic 106, 3) := dk_184 0 106 (dk_at dksX1_late_0 12 rfl rfl)
theorem dX1_late_15 : decode cX1_late 15 = .ok (.invokestatic 143, 3) := dk_184 0 143 (dk_at dksX1_late_0 15 rfl rfl)
theorem dX1_late_18 : decode cX1_late 18 = .ok (.aload_n 3, 1) := dk_45 (dk_at dksX1_late_0 18 rfl rfl)
theorem dX1_late_19 : decode cX1_late 19 = .ok (.getfield 182, 3) := dk_180 0 182 (dk_at dksX1_late_0 19 rfl rfl)
theorem dX1_late_22 : decode cX1_late 22 = .ok (.istore 4, 2) := dk_54 4 (dk_at dksX1_late_0 22 rfl rfl)
theorem dX1_late_24 : decode cX1_late 24 = .ok (.aload_n 3, 1) := dk_45 (dk_at dksX1_late_1 0 rfl rfl)
theorem dX1_late_25 : decode cX1_late 25 = .ok (.iload_n 2, 1) := dk_28 (dk_at dksX1_late_1 1 rfl rfl)
theorem dX1_late_26 : decode cX1_late 26 = .ok (.putfield 182, 3) := dk_181 0 182 (dk_at dksX1_late_1 2 rfl rfl)
theorem dX1_late_29 : decode cX1_late 29 = .ok (.iload 4, 2) := dk_21 4 (dk_at dksX1_late_1 5 rfl rfl)
theorem dX1_late_31 : decode cX1_late 31 = .ok (.ireturn, 1) := dk_172 (dk_at dksX1_late_1 7 rfl rfl)
abbrev cX1_rules : ByteArray := prog_1_method_16_code
def yX1_rules : MethodName := ⟨RX1, "rules", "(II)I"⟩
def dkwX1_rules_2 : List UInt8 := [25, 4, 180, 0, 217, 181, 0, 220, 21, 5, 172]
abbrev dktX1_rules_2 : List UInt8 := dkwX1_rules_2 ++ []
def dkwX1_rules_1 : List UInt8 := [42, 180, 0, 32, 28, 183, 0, 210, 58, 4, 42, 25, 4, 182, 0, 213, 54, 5, 21, 5, 155, 0, 12, 45]
abbrev dktX1_rules_1 : List UInt8 := dkwX1_rules_1 ++ dktX1_rules_2
def dkwX1_rules_0 : List UInt8 := [42, 27, 182, 0, 153, 78, 28, 133, 9, 42, 180, 0, 185, 133, 184, 0, 106, 184, 0, 143, 187, 0, 208, 89]
abbrev dktX1_rules_0 : List UInt8 := dkwX1_rules_0 ++ dktX1_rules_1
theorem dksX1_rules_0 : cX1_rules.data.toList.drop 0 = dktX1_rules_0 := by decide +kernel
theorem dksX1_rules_1 : cX1_rules.data.toList.drop 24 = dktX1_rules_1 := dk_seg dksX1_rules_0 24 rfl rfl
theorem dksX1_rules_2 : cX1_rules.data.toList.drop 48 = dktX1_rules_2 := dk_seg dksX1_rules_1 24 rfl rfl
theorem dX1_rules_0 : decode cX1_rules 0 = .ok (.aload_n 0, 1) := dk_42 (dk_at dksX1_rules_0 0 rfl rfl)
theorem dX1_rules_1 : decode cX1_rules 1 = .ok (.iload_n 1, 1) := dk_27 (dk_at dksX1_rules_0 1 rfl rfl)
theorem dX1_rules_2 : decode cX1_rules 2 = .ok (.invokevirtual 153, 3) := dk_182 0 153 (dk_at dksX1_rules_0 2 rfl rfl)
theorem dX1_rules_5 : decode cX1_rules 5 = .ok (.astore_n 3, 1) := dk_78 (dk_at dksX1_rules_0 5 rfl rfl)
theorem dX1_rules_6 : decode cX1_rules 6 = .ok (.iload_n 2, 1) := dk_28 (dk_at dksX1_rules_0 6 rfl rfl)
theorem dX1_rules_7 : decode cX1_rules 7 = .ok (.i2l, 1) := dk_133 (dk_at dksX1_rules_0 7 rfl rfl)
theorem dX1_rules_8 : decode cX1_rules 8 = .ok (.lconst 0, 1) := dk_9 (dk_at dksX1_rules_0 8 rfl rfl)
theorem dX1_rules_9 : decode cX1_rules 9 = .ok (.aload_n 0, 1) := dk_42 (dk_at dksX1_rules_0 9 rfl rfl)
theorem dX1_rules_10 : decode cX1_rules 10 = .ok (.getfield 185, 3) := dk_180 0 185 (dk_at dksX1_rules_0 10 rfl rfl)
theorem dX1_rules_13 : decode cX1_rules 13 = .ok (.i2l, 1) := dk_133 (dk_at dksX1_rules_0 13 rfl rfl)
theorem dX1_rules_14 : decode cX1_rules 14 = .ok (.invokestatic 106, 3) := dk_184 0 106 (dk_at dksX1_rules_0 14 rfl rfl)
theorem dX1_rules_17 : decode cX1_rules 17 = .ok (.invokestatic 143, 3) := dk_184 0 143 (dk_at dksX1_rules_0 17 rfl rfl)
theorem dX1_rules_20 : decode cX1_rules 20 = .ok (.new 208, 3) := dk_187 0 208 (dk_at dksX1_rules_0 20 rfl rfl)
theorem dX1_rules_23 : decode cX1_rules 23 = .ok (.dup, 1) := dk_89 (dk_at dksX1_rules_0 23 rfl rfl)
theorem dX1_rules_24 : decode cX1_rules 24 = .ok (.aload_n 0, 1) := dk_42 (dk_at dksX1_rules_1 0 rfl rfl)
theorem dX1_rules_25 : decode cX1_rules 25 = .ok (.getfield 32, 3) := dk_180 0 32 (dk_at dksX1_rules_1 1 rfl rfl)
theorem dX1_rules_28 : decode cX1_rules 28 = .ok (.iload_n 2, 1) := dk_28 (dk_at dksX1_rules_1 4 rfl rfl)
theorem dX1_rules_29 : decode cX1_rules 29 = .ok (.invokespecial 210, 3) := dk_183 0 210 (dk_at dksX1_rules_1 5 rfl rfl)
theorem dX1_rules_32 : decode cX1_rules 32 = .ok (.astore 4, 2) := dk_58 4 (dk_at dksX1_rules_1 8 rfl rfl)
theorem dX1_rules_34 : decode cX1_rules 34 = .ok (.aload_n 0, 1) := dk_42 (dk_at dksX1_rules_1 10 rfl rfl)
theorem dX1_rules_35 : decode cX1_rules 35 = .ok (.aload 4, 2) := dk_25 4 (dk_at dksX1_rules_1 11 rfl rfl)
theorem dX1_rules_37 : decode cX1_rules 37 = .ok (.invokevirtual 213, 3) := dk_182 0 213 (dk_at dksX1_rules_1 13 rfl rfl)
theorem dX1_rules_40 : decode cX1_rules 40 = .ok (.istore 5, 2) := dk_54 5 (dk_at dksX1_rules_1 16 rfl rfl)
theorem dX1_rules_42 : decode cX1_rules 42 = .ok (.iload 5, 2) := dk_21 5 (dk_at dksX1_rules_1 18 rfl rfl)
theorem dX1_rules_44 : decode cX1_rules 44 = .ok (.ifCond .lt 12, 3) := dk_155 0 12 (dk_at dksX1_rules_1 20 rfl rfl)
theorem dX1_rules_47 : decode cX1_rules 47 = .ok (.aload_n 3, 1) := dk_45 (dk_at dksX1_rules_1 23 rfl rfl)
theorem dX1_rules_48 : decode cX1_rules 48 = .ok (.aload 4, 2) := dk_25 4 (dk_at dksX1_rules_2 0 rfl rfl)
theorem dX1_rules_50 : decode cX1_rules 50 = .ok (.getfield 217, 3) := dk_180 0 217 (dk_at dksX1_rules_2 2 rfl rfl)
theorem dX1_rules_53 : decode cX1_rules 53 = .ok (.putfield 220, 3) := dk_181 0 220 (dk_at dksX1_rules_2 5 rfl rfl)
theorem dX1_rules_56 : decode cX1_rules 56 = .ok (.iload 5, 2) := dk_21 5 (dk_at dksX1_rules_2 8 rfl rfl)
theorem dX1_rules_58 : decode cX1_rules 58 = .ok (.ireturn, 1) := dk_172 (dk_at dksX1_rules_2 10 rfl rfl)
abbrev cX1_reads : ByteArray := prog_1_method_15_code
def yX1_reads : MethodName := ⟨RX1, "reads", "(LPumpCrossing$Reader;)I"⟩
def dkwX1_reads_3 : List UInt8 := [172]
abbrev dktX1_reads_3 : List UInt8 := dkwX1_reads_3 ++ []
def dkwX1_reads_2 : List UInt8 := [180, 0, 202, 100, 61, 42, 3, 181, 0, 185, 167, 0, 13, 58, 4, 42, 3, 181, 0, 185, 25, 4, 191, 28]
abbrev dktX1_reads_2 : List UInt8 := dkwX1_reads_2 ++ dktX1_reads_3
def dkwX1_reads_1 : List UInt8 := [167, 0, 46, 78, 42, 45, 180, 0, 202, 181, 0, 192, 42, 45, 180, 0, 205, 181, 0, 36, 16, 246, 45]
abbrev dktX1_reads_1 : List UInt8 := dkwX1_reads_1 ++ dktX1_reads_2
def dkwX1_reads_0 : List UInt8 := [3, 61, 42, 3, 181, 0, 192, 42, 2, 181, 0, 36, 43, 182, 0, 195, 61, 42, 3, 181, 0, 185]
abbrev dktX1_reads_0 : List UInt8 := dkwX1_reads_0 ++ dktX1_reads_1
theorem dksX1_reads_0 : cX1_reads.data.toList.drop 0 = dktX1_reads_0 := by decide +kernel
theorem dksX1_reads_1 : cX1_reads.data.toList.drop 22 = dktX1_reads_1 := dk_seg dksX1_reads_0 22 rfl rfl
theorem dksX1_reads_2 : cX1_reads.data.toList.drop 45 = dktX1_reads_2 := dk_seg dksX1_reads_1 23 rfl rfl
theorem dksX1_reads_3 : cX1_reads.data.toList.drop 69 = dktX1_reads_3 := dk_seg dksX1_reads_2 24 rfl rfl
theorem dX1_reads_0 : decode cX1_reads 0 = .ok (.iconst 0, 1) := dk_3 (dk_at dksX1_reads_0 0 rfl rfl)
theorem dX1_reads_1 : decode cX1_reads 1 = .ok (.istore_n 2, 1) := dk_61 (dk_at dksX1_reads_0 1 rfl rfl)
theorem dX1_reads_2 : decode cX1_reads 2 = .ok (.aload_n 0, 1) := dk_42 (dk_at dksX1_reads_0 2 rfl rfl)
theorem dX1_reads_3 : decode cX1_reads 3 = .ok (.iconst 0, 1) := dk_3 (dk_at dksX1_reads_0 3 rfl rfl)
theorem dX1_reads_4 : decode cX1_reads 4 = .ok (.putfield 192, 3) := dk_181 0 192 (dk_at dksX1_reads_0 4 rfl rfl)
theorem dX1_reads_7 : decode cX1_reads 7 = .ok (.aload_n 0, 1) := dk_42 (dk_at dksX1_reads_0 7 rfl rfl)
theorem dX1_reads_8 : decode cX1_reads 8 = .ok (.iconst (-1), 1) := dk_2 (dk_at dksX1_reads_0 8 rfl rfl)
theorem dX1_reads_9 : decode cX1_reads 9 = .ok (.putfield 36, 3) := dk_181 0 36 (dk_at dksX1_reads_0 9 rfl rfl)
theorem dX1_reads_12 : decode cX1_reads 12 = .ok (.aload_n 1, 1) := dk_43 (dk_at dksX1_reads_0 12 rfl rfl)
theorem dX1_reads_13 : decode cX1_reads 13 = .ok (.invokevirtual 195, 3) := dk_182 0 195 (dk_at dksX1_reads_0 13 rfl rfl)
theorem dX1_reads_16 : decode cX1_reads 16 = .ok (.istore_n 2, 1) := dk_61 (dk_at dksX1_reads_0 16 rfl rfl)
theorem dX1_reads_17 : decode cX1_reads 17 = .ok (.aload_n 0, 1) := dk_42 (dk_at dksX1_reads_0 17 rfl rfl)
theorem dX1_reads_18 : decode cX1_reads 18 = .ok (.iconst 0, 1) := dk_3 (dk_at dksX1_reads_0 18 rfl rfl)
theorem dX1_reads_19 : decode cX1_reads 19 = .ok (.putfield 185, 3) := dk_181 0 185 (dk_at dksX1_reads_0 19 rfl rfl)
theorem dX1_reads_22 : decode cX1_reads 22 = .ok (.goto 46, 3) := dk_167 0 46 (dk_at dksX1_reads_1 0 rfl rfl)
theorem dX1_reads_25 : decode cX1_reads 25 = .ok (.astore_n 3, 1) := dk_78 (dk_at dksX1_reads_1 3 rfl rfl)
theorem dX1_reads_26 : decode cX1_reads 26 = .ok (.aload_n 0, 1) := dk_42 (dk_at dksX1_reads_1 4 rfl rfl)
theorem dX1_reads_27 : decode cX1_reads 27 = .ok (.aload_n 3, 1) := dk_45 (dk_at dksX1_reads_1 5 rfl rfl)
theorem dX1_reads_28 : decode cX1_reads 28 = .ok (.getfield 202, 3) := dk_180 0 202 (dk_at dksX1_reads_1 6 rfl rfl)
theorem dX1_reads_31 : decode cX1_reads 31 = .ok (.putfield 192, 3) := dk_181 0 192 (dk_at dksX1_reads_1 9 rfl rfl)
theorem dX1_reads_34 : decode cX1_reads 34 = .ok (.aload_n 0, 1) := dk_42 (dk_at dksX1_reads_1 12 rfl rfl)
theorem dX1_reads_35 : decode cX1_reads 35 = .ok (.aload_n 3, 1) := dk_45 (dk_at dksX1_reads_1 13 rfl rfl)
theorem dX1_reads_36 : decode cX1_reads 36 = .ok (.getfield 205, 3) := dk_180 0 205 (dk_at dksX1_reads_1 14 rfl rfl)
theorem dX1_reads_39 : decode cX1_reads 39 = .ok (.putfield 36, 3) := dk_181 0 36 (dk_at dksX1_reads_1 17 rfl rfl)
theorem dX1_reads_42 : decode cX1_reads 42 = .ok (.bipush (-10), 2) := dk_16 246 (dk_at dksX1_reads_1 20 rfl rfl)
theorem dX1_reads_44 : decode cX1_reads 44 = .ok (.aload_n 3, 1) := dk_45 (dk_at dksX1_reads_1 22 rfl rfl)
theorem dX1_reads_45 : decode cX1_reads 45 = .ok (.getfield 202, 3) := dk_180 0 202 (dk_at dksX1_reads_2 0 rfl rfl)
theorem dX1_reads_48 : decode cX1_reads 48 = .ok (.isub, 1) := dk_100 (dk_at dksX1_reads_2 3 rfl rfl)
theorem dX1_reads_49 : decode cX1_reads 49 = .ok (.istore_n 2, 1) := dk_61 (dk_at dksX1_reads_2 4 rfl rfl)
theorem dX1_reads_50 : decode cX1_reads 50 = .ok (.aload_n 0, 1) := dk_42 (dk_at dksX1_reads_2 5 rfl rfl)
theorem dX1_reads_51 : decode cX1_reads 51 = .ok (.iconst 0, 1) := dk_3 (dk_at dksX1_reads_2 6 rfl rfl)
theorem dX1_reads_52 : decode cX1_reads 52 = .ok (.putfield 185, 3) := dk_181 0 185 (dk_at dksX1_reads_2 7 rfl rfl)
theorem dX1_reads_55 : decode cX1_reads 55 = .ok (.goto 13, 3) := dk_167 0 13 (dk_at dksX1_reads_2 10 rfl rfl)
theorem dX1_reads_58 : decode cX1_reads 58 = .ok (.astore 4, 2) := dk_58 4 (dk_at dksX1_reads_2 13 rfl rfl)
theorem dX1_reads_60 : decode cX1_reads 60 = .ok (.aload_n 0, 1) := dk_42 (dk_at dksX1_reads_2 15 rfl rfl)
theorem dX1_reads_61 : decode cX1_reads 61 = .ok (.iconst 0, 1) := dk_3 (dk_at dksX1_reads_2 16 rfl rfl)
theorem dX1_reads_62 : decode cX1_reads 62 = .ok (.putfield 185, 3) := dk_181 0 185 (dk_at dksX1_reads_2 17 rfl rfl)
theorem dX1_reads_65 : decode cX1_reads 65 = .ok (.aload 4, 2) := dk_25 4 (dk_at dksX1_reads_2 20 rfl rfl)
theorem dX1_reads_67 : decode cX1_reads 67 = .ok (.athrow, 1) := dk_191 (dk_at dksX1_reads_2 22 rfl rfl)
theorem dX1_reads_68 : decode cX1_reads 68 = .ok (.iload_n 2, 1) := dk_28 (dk_at dksX1_reads_2 23 rfl rfl)
theorem dX1_reads_69 : decode cX1_reads 69 = .ok (.ireturn, 1) := dk_172 (dk_at dksX1_reads_3 0 rfl rfl)
abbrev cX1_law : ByteArray := prog_1_method_17_code
def yX1_law : MethodName := ⟨RX1, "law", "(I)I"⟩
def dkwX1_law_2 : List UInt8 := [181, 0, 229, 29, 172]
abbrev dktX1_law_2 : List UInt8 := dkwX1_law_2 ++ []
def dkwX1_law_1 : List UInt8 := [183, 0, 225, 77, 42, 44, 182, 0, 213, 62, 29, 155, 0, 14, 42, 180, 0, 22, 44, 180, 0, 226]
abbrev dktX1_law_1 : List UInt8 := dkwX1_law_1 ++ dktX1_law_2
def dkwX1_law_0 : List UInt8 := [27, 133, 9, 42, 180, 0, 185, 133, 184, 0, 106, 184, 0, 143, 187, 0, 223, 89, 42, 180, 0, 32, 27]
abbrev dktX1_law_0 : List UInt8 := dkwX1_law_0 ++ dktX1_law_1
theorem dksX1_law_0 : cX1_law.data.toList.drop 0 = dktX1_law_0 := by decide +kernel
theorem dksX1_law_1 : cX1_law.data.toList.drop 23 = dktX1_law_1 := dk_seg dksX1_law_0 23 rfl rfl
theorem dksX1_law_2 : cX1_law.data.toList.drop 45 = dktX1_law_2 := dk_seg dksX1_law_1 22 rfl rfl
theorem dX1_law_0 : decode cX1_law 0 = .ok (.iload_n 1, 1) := dk_27 (dk_at dksX1_law_0 0 rfl rfl)
theorem dX1_law_1 : decode cX1_law 1 = .ok (.i2l, 1) := dk_133 (dk_at dksX1_law_0 1 rfl rfl)
theorem dX1_law_2 : decode cX1_law 2 = .ok (.lconst 0, 1) := dk_9 (dk_at dksX1_law_0 2 rfl rfl)
theorem dX1_law_3 : decode cX1_law 3 = .ok (.aload_n 0, 1) := dk_42 (dk_at dksX1_law_0 3 rfl rfl)
theorem dX1_law_4 : decode cX1_law 4 = .ok (.getfield 185, 3) := dk_180 0 185 (dk_at dksX1_law_0 4 rfl rfl)
theorem dX1_law_7 : decode cX1_law 7 = .ok (.i2l, 1) := dk_133 (dk_at dksX1_law_0 7 rfl rfl)
theorem dX1_law_8 : decode cX1_law 8 = .ok (.invokestatic 106, 3) := dk_184 0 106 (dk_at dksX1_law_0 8 rfl rfl)
theorem dX1_law_11 : decode cX1_law 11 = .ok (.invokestatic 143, 3) := dk_184 0 143 (dk_at dksX1_law_0 11 rfl rfl)
theorem dX1_law_14 : decode cX1_law 14 = .ok (.new 223, 3) := dk_187 0 223 (dk_at dksX1_law_0 14 rfl rfl)
theorem dX1_law_17 : decode cX1_law 17 = .ok (.dup, 1) := dk_89 (dk_at dksX1_law_0 17 rfl rfl)
theorem dX1_law_18 : decode cX1_law 18 = .ok (.aload_n 0, 1) := dk_42 (dk_at dksX1_law_0 18 rfl rfl)
theorem dX1_law_19 : decode cX1_law 19 = .ok (.getfield 32, 3) := dk_180 0 32 (dk_at dksX1_law_0 19 rfl rfl)
theorem dX1_law_22 : decode cX1_law 22 = .ok (.iload_n 1, 1) := dk_27 (dk_at dksX1_law_0 22 rfl rfl)
theorem dX1_law_23 : decode cX1_law 23 = .ok (.invokespecial 225, 3) := dk_183 0 225 (dk_at dksX1_law_1 0 rfl rfl)
theorem dX1_law_26 : decode cX1_law 26 = .ok (.astore_n 2, 1) := dk_77 (dk_at dksX1_law_1 3 rfl rfl)
theorem dX1_law_27 : decode cX1_law 27 = .ok (.aload_n 0, 1) := dk_42 (dk_at dksX1_law_1 4 rfl rfl)
theorem dX1_law_28 : decode cX1_law 28 = .ok (.aload_n 2, 1) := dk_44 (dk_at dksX1_law_1 5 rfl rfl)
theorem dX1_law_29 : decode cX1_law 29 = .ok (.invokevirtual 213, 3) := dk_182 0 213 (dk_at dksX1_law_1 6 rfl rfl)
theorem dX1_law_32 : decode cX1_law 32 = .ok (.istore_n 3, 1) := dk_62 (dk_at dksX1_law_1 9 rfl rfl)
theorem dX1_law_33 : decode cX1_law 33 = .ok (.iload_n 3, 1) := dk_29 (dk_at dksX1_law_1 10 rfl rfl)
theorem dX1_law_34 : decode cX1_law 34 = .ok (.ifCond .lt 14, 3) := dk_155 0 14 (dk_at dksX1_law_1 11 rfl rfl)
theorem dX1_law_37 : decode cX1_law 37 = .ok (.aload_n 0, 1) := dk_42 (dk_at dksX1_law_1 14 rfl rfl)
theorem dX1_law_38 : decode cX1_law 38 = .ok (.getfield 22, 3) := dk_180 0 22 (dk_at dksX1_law_1 15 rfl rfl)
theorem dX1_law_41 : decode cX1_law 41 = .ok (.aload_n 2, 1) := dk_44 (dk_at dksX1_law_1 18 rfl rfl)
theorem dX1_law_42 : decode cX1_law 42 = .ok (.getfield 226, 3) := dk_180 0 226 (dk_at dksX1_law_1 19 rfl rfl)
theorem dX1_law_45 : decode cX1_law 45 = .ok (.putfield 229, 3) := dk_181 0 229 (dk_at dksX1_law_2 0 rfl rfl)
theorem dX1_law_48 : decode cX1_law 48 = .ok (.iload_n 3, 1) := dk_29 (dk_at dksX1_law_2 3 rfl rfl)
theorem dX1_law_49 : decode cX1_law 49 = .ok (.ireturn, 1) := dk_172 (dk_at dksX1_law_2 4 rfl rfl)
abbrev cX1_run : ByteArray := prog_1_method_23_code
def yX1_run : MethodName := ⟨RX1, "run", "(I)I"⟩
def dkwX1_run_1 : List UInt8 := [184, 0, 238, 61, 3, 62, 29, 28, 162, 0, 13, 42, 182, 1, 69, 132, 3, 1, 167, 255, 244, 28, 172]
abbrev dktX1_run_1 : List UInt8 := dkwX1_run_1 ++ []
def dkwX1_run_0 : List UInt8 := [27, 133, 9, 20, 1, 67, 184, 0, 106, 184, 0, 143, 27, 17, 11, 184, 42, 180, 0, 22, 180, 0, 126, 100]
abbrev dktX1_run_0 : List UInt8 := dkwX1_run_0 ++ dktX1_run_1
theorem dksX1_run_0 : cX1_run.data.toList.drop 0 = dktX1_run_0 := by decide +kernel
theorem dksX1_run_1 : cX1_run.data.toList.drop 24 = dktX1_run_1 := dk_seg dksX1_run_0 24 rfl rfl
theorem dX1_run_0 : decode cX1_run 0 = .ok (.iload_n 1, 1) := dk_27 (dk_at dksX1_run_0 0 rfl rfl)
theorem dX1_run_1 : decode cX1_run 1 = .ok (.i2l, 1) := dk_133 (dk_at dksX1_run_0 1 rfl rfl)
theorem dX1_run_2 : decode cX1_run 2 = .ok (.lconst 0, 1) := dk_9 (dk_at dksX1_run_0 2 rfl rfl)
theorem dX1_run_3 : decode cX1_run 3 = .ok (.ldc2_w 323, 3) := dk_20 1 67 (dk_at dksX1_run_0 3 rfl rfl)
theorem dX1_run_6 : decode cX1_run 6 = .ok (.invokestatic 106, 3) := dk_184 0 106 (dk_at dksX1_run_0 6 rfl rfl)
theorem dX1_run_9 : decode cX1_run 9 = .ok (.invokestatic 143, 3) := dk_184 0 143 (dk_at dksX1_run_0 9 rfl rfl)
theorem dX1_run_12 : decode cX1_run 12 = .ok (.iload_n 1, 1) := dk_27 (dk_at dksX1_run_0 12 rfl rfl)
theorem dX1_run_13 : decode cX1_run 13 = .ok (.sipush 3000, 3) := dk_17 11 184 (dk_at dksX1_run_0 13 rfl rfl)
theorem dX1_run_16 : decode cX1_run 16 = .ok (.aload_n 0, 1) := dk_42 (dk_at dksX1_run_0 16 rfl rfl)
theorem dX1_run_17 : decode cX1_run 17 = .ok (.getfield 22, 3) := dk_180 0 22 (dk_at dksX1_run_0 17 rfl rfl)
theorem dX1_run_20 : decode cX1_run 20 = .ok (.getfield 126, 3) := dk_180 0 126 (dk_at dksX1_run_0 20 rfl rfl)
theorem dX1_run_23 : decode cX1_run 23 = .ok (.isub, 1) := dk_100 (dk_at dksX1_run_0 23 rfl rfl)
theorem dX1_run_24 : decode cX1_run 24 = .ok (.invokestatic 238, 3) := dk_184 0 238 (dk_at dksX1_run_1 0 rfl rfl)
theorem dX1_run_27 : decode cX1_run 27 = .ok (.istore_n 2, 1) := dk_61 (dk_at dksX1_run_1 3 rfl rfl)
theorem dX1_run_28 : decode cX1_run 28 = .ok (.iconst 0, 1) := dk_3 (dk_at dksX1_run_1 4 rfl rfl)
theorem dX1_run_29 : decode cX1_run 29 = .ok (.istore_n 3, 1) := dk_62 (dk_at dksX1_run_1 5 rfl rfl)
theorem dX1_run_30 : decode cX1_run 30 = .ok (.iload_n 3, 1) := dk_29 (dk_at dksX1_run_1 6 rfl rfl)
theorem dX1_run_31 : decode cX1_run 31 = .ok (.iload_n 2, 1) := dk_28 (dk_at dksX1_run_1 7 rfl rfl)
theorem dX1_run_32 : decode cX1_run 32 = .ok (.if_icmp .ge 13, 3) := dk_162 0 13 (dk_at dksX1_run_1 8 rfl rfl)
theorem dX1_run_35 : decode cX1_run 35 = .ok (.aload_n 0, 1) := dk_42 (dk_at dksX1_run_1 11 rfl rfl)
theorem dX1_run_36 : decode cX1_run 36 = .ok (.invokevirtual 325, 3) := dk_182 1 69 (dk_at dksX1_run_1 12 rfl rfl)
theorem dX1_run_39 : decode cX1_run 39 = .ok (.iinc 3 1, 3) := dk_132 3 1 (dk_at dksX1_run_1 15 rfl rfl)
theorem dX1_run_42 : decode cX1_run 42 = .ok (.goto (-12), 3) := dk_167 255 244 (dk_at dksX1_run_1 18 rfl rfl)
theorem dX1_run_45 : decode cX1_run 45 = .ok (.iload_n 2, 1) := dk_28 (dk_at dksX1_run_1 21 rfl rfl)
theorem dX1_run_46 : decode cX1_run 46 = .ok (.ireturn, 1) := dk_172 (dk_at dksX1_run_1 22 rfl rfl)
abbrev cX1_hour : ByteArray := prog_1_method_22_code
def yX1_hour : MethodName := ⟨RX1, "hour", "()V"⟩
def dkwX1_hour_11 : List UInt8 := [167, 255, 125, 42, 180, 0, 22, 89, 180, 0, 126, 4, 96, 181, 0, 126, 177]
abbrev dktX1_hour_11 : List UInt8 := dkwX1_hour_11 ++ []
def dkwX1_hour_10 : List UInt8 := [180, 1, 65, 45, 180, 1, 60, 133, 42, 180, 0, 60, 21, 4, 46, 133, 105, 97, 181, 1, 65, 132, 2, 1]
abbrev dktX1_hour_10 : List UInt8 := dkwX1_hour_10 ++ dktX1_hour_11
def dkwX1_hour_9 : List UInt8 := [97, 181, 1, 56, 25, 5, 89, 180, 1, 62, 45, 180, 1, 60, 133, 97, 181, 1, 62, 42, 180, 0, 22, 89]
abbrev dktX1_hour_9 : List UInt8 := dkwX1_hour_9 ++ dktX1_hour_10
def dkwX1_hour_8 : List UInt8 := [89, 180, 1, 56, 45, 180, 1, 60, 133, 42, 180, 0, 60, 21, 4, 46, 25, 5, 180, 0, 170, 100, 133, 105]
abbrev dktX1_hour_8 : List UInt8 := dkwX1_hour_8 ++ dktX1_hour_9
def dkwX1_hour_7 : List UInt8 := [182, 1, 52, 54, 4, 42, 180, 0, 22, 180, 0, 114, 21, 4, 182, 0, 118, 192, 0, 124, 58, 5, 25, 5]
abbrev dktX1_hour_7 : List UInt8 := dkwX1_hour_7 ++ dktX1_hour_8
def dkwX1_hour_6 : List UInt8 := [162, 0, 123, 42, 180, 0, 22, 180, 0, 159, 28, 182, 0, 118, 192, 0, 165, 78, 42, 45, 42, 180, 0, 60]
abbrev dktX1_hour_6 : List UInt8 := dkwX1_hour_6 ++ dktX1_hour_7
def dkwX1_hour_5 : List UInt8 := [46, 145, 84, 132, 2, 1, 167, 255, 177, 3, 61, 28, 42, 180, 0, 22, 180, 0, 159, 182, 0, 162]
abbrev dktX1_hour_5 : List UInt8 := dkwX1_hour_5 ++ dktX1_hour_6
def dkwX1_hour_4 : List UInt8 := [28, 46, 181, 1, 43, 42, 180, 0, 22, 180, 1, 48, 27, 17, 1, 0, 112, 50, 28, 42, 180, 0, 60, 28]
abbrev dktX1_hour_4 : List UInt8 := dkwX1_hour_4 ++ dktX1_hour_5
def dkwX1_hour_3 : List UInt8 := [78, 42, 180, 0, 60, 28, 46, 45, 180, 1, 43, 159, 0, 8, 45, 27, 181, 1, 45, 45, 42, 180, 0, 60]
abbrev dktX1_hour_3 : List UInt8 := dkwX1_hour_3 ++ dktX1_hour_4
def dkwX1_hour_2 : List UInt8 := [42, 180, 0, 22, 182, 0, 102, 162, 0, 74, 42, 180, 0, 22, 180, 0, 114, 28, 182, 0, 118, 192, 0, 124]
abbrev dktX1_hour_2 : List UInt8 := dkwX1_hour_2 ++ dktX1_hour_3
def dkwX1_hour_1 : List UInt8 := [180, 0, 60, 28, 42, 42, 180, 0, 45, 28, 27, 182, 1, 39, 79, 132, 2, 1, 167, 255, 226, 3, 61, 28]
abbrev dktX1_hour_1 : List UInt8 := dkwX1_hour_1 ++ dktX1_hour_2
def dkwX1_hour_0 : List UInt8 := [42, 180, 0, 22, 180, 0, 126, 60, 3, 61, 28, 42, 180, 0, 22, 182, 0, 102, 162, 0, 25, 42]
abbrev dktX1_hour_0 : List UInt8 := dkwX1_hour_0 ++ dktX1_hour_1
theorem dksX1_hour_0 : cX1_hour.data.toList.drop 0 = dktX1_hour_0 := by decide +kernel
theorem dksX1_hour_1 : cX1_hour.data.toList.drop 22 = dktX1_hour_1 := dk_seg dksX1_hour_0 22 rfl rfl
theorem dksX1_hour_2 : cX1_hour.data.toList.drop 46 = dktX1_hour_2 := dk_seg dksX1_hour_1 24 rfl rfl
theorem dksX1_hour_3 : cX1_hour.data.toList.drop 70 = dktX1_hour_3 := dk_seg dksX1_hour_2 24 rfl rfl
theorem dksX1_hour_4 : cX1_hour.data.toList.drop 94 = dktX1_hour_4 := dk_seg dksX1_hour_3 24 rfl rfl
theorem dksX1_hour_5 : cX1_hour.data.toList.drop 118 = dktX1_hour_5 := dk_seg dksX1_hour_4 24 rfl rfl
theorem dksX1_hour_6 : cX1_hour.data.toList.drop 140 = dktX1_hour_6 := dk_seg dksX1_hour_5 22 rfl rfl
theorem dksX1_hour_7 : cX1_hour.data.toList.drop 164 = dktX1_hour_7 := dk_seg dksX1_hour_6 24 rfl rfl
theorem dksX1_hour_8 : cX1_hour.data.toList.drop 188 = dktX1_hour_8 := dk_seg dksX1_hour_7 24 rfl rfl
theorem dksX1_hour_9 : cX1_hour.data.toList.drop 212 = dktX1_hour_9 := dk_seg dksX1_hour_8 24 rfl rfl
theorem dksX1_hour_10 : cX1_hour.data.toList.drop 236 = dktX1_hour_10 := dk_seg dksX1_hour_9 24 rfl rfl
theorem dksX1_hour_11 : cX1_hour.data.toList.drop 260 = dktX1_hour_11 := dk_seg dksX1_hour_10 24 rfl rfl
theorem dX1_hour_0 : decode cX1_hour 0 = .ok (.aload_n 0, 1) := dk_42 (dk_at dksX1_hour_0 0 rfl rfl)
theorem dX1_hour_1 : decode cX1_hour 1 = .ok (.getfield 22, 3) := dk_180 0 22 (dk_at dksX1_hour_0 1 rfl rfl)
theorem dX1_hour_4 : decode cX1_hour 4 = .ok (.getfield 126, 3) := dk_180 0 126 (dk_at dksX1_hour_0 4 rfl rfl)
theorem dX1_hour_7 : decode cX1_hour 7 = .ok (.istore_n 1, 1) := dk_60 (dk_at dksX1_hour_0 7 rfl rfl)
theorem dX1_hour_8 : decode cX1_hour 8 = .ok (.iconst 0, 1) := dk_3 (dk_at dksX1_hour_0 8 rfl rfl)
theorem dX1_hour_9 : decode cX1_hour 9 = .ok (.istore_n 2, 1) := dk_61 (dk_at dksX1_hour_0 9 rfl rfl)
theorem dX1_hour_10 : decode cX1_hour 10 = .ok (.iload_n 2, 1) := dk_28 (dk_at dksX1_hour_0 10 rfl rfl)
theorem dX1_hour_11 : decode cX1_hour 11 = .ok (.aload_n 0, 1) := dk_42 (dk_at dksX1_hour_0 11 rfl rfl)
theorem dX1_hour_12 : decode cX1_hour 12 = .ok (.getfield 22, 3) := dk_180 0 22 (dk_at dksX1_hour_0 12 rfl rfl)
theorem dX1_hour_15 : decode cX1_hour 15 = .ok (.invokevirtual 102, 3) := dk_182 0 102 (dk_at dksX1_hour_0 15 rfl rfl)
theorem dX1_hour_18 : decode cX1_hour 18 = .ok (.if_icmp .ge 25, 3) := dk_162 0 25 (dk_at dksX1_hour_0 18 rfl rfl)
theorem dX1_hour_21 : decode cX1_hour 21 = .ok (.aload_n 0, 1) := dk_42 (dk_at dksX1_hour_0 21 rfl rfl)
theorem dX1_hour_22 : decode cX1_hour 22 = .ok (.getfield 60, 3) := dk_180 0 60 (dk_at dksX1_hour_1 0 rfl rfl)
theorem dX1_hour_25 : decode cX1_hour 25 = .ok (.iload_n 2, 1) := dk_28 (dk_at dksX1_hour_1 3 rfl rfl)
theorem dX1_hour_26 : decode cX1_hour 26 = .ok (.aload_n 0, 1) := dk_42 (dk_at dksX1_hour_1 4 rfl rfl)
theorem dX1_hour_27 : decode cX1_hour 27 = .ok (.aload_n 0, 1) := dk_42 (dk_at dksX1_hour_1 5 rfl rfl)
theorem dX1_hour_28 : decode cX1_hour 28 = .ok (.getfield 45, 3) := dk_180 0 45 (dk_at dksX1_hour_1 6 rfl rfl)
theorem dX1_hour_31 : decode cX1_hour 31 = .ok (.iload_n 2, 1) := dk_28 (dk_at dksX1_hour_1 9 rfl rfl)
theorem dX1_hour_32 : decode cX1_hour 32 = .ok (.iload_n 1, 1) := dk_27 (dk_at dksX1_hour_1 10 rfl rfl)
theorem dX1_hour_33 : decode cX1_hour 33 = .ok (.invokevirtual 295, 3) := dk_182 1 39 (dk_at dksX1_hour_1 11 rfl rfl)
theorem dX1_hour_36 : decode cX1_hour 36 = .ok (.iastore, 1) := dk_79 (dk_at dksX1_hour_1 14 rfl rfl)
theorem dX1_hour_37 : decode cX1_hour 37 = .ok (.iinc 2 1, 3) := dk_132 2 1 (dk_at dksX1_hour_1 15 rfl rfl)
theorem dX1_hour_40 : decode cX1_hour 40 = .ok (.goto (-30), 3) := dk_167 255 226 (dk_at dksX1_hour_1 18 rfl rfl)
theorem dX1_hour_43 : decode cX1_hour 43 = .ok (.iconst 0, 1) := dk_3 (dk_at dksX1_hour_1 21 rfl rfl)
theorem dX1_hour_44 : decode cX1_hour 44 = .ok (.istore_n 2, 1) := dk_61 (dk_at dksX1_hour_1 22 rfl rfl)
theorem dX1_hour_45 : decode cX1_hour 45 = .ok (.iload_n 2, 1) := dk_28 (dk_at dksX1_hour_1 23 rfl rfl)
theorem dX1_hour_46 : decode cX1_hour 46 = .ok (.aload_n 0, 1) := dk_42 (dk_at dksX1_hour_2 0 rfl rfl)
theorem dX1_hour_47 : decode cX1_hour 47 = .ok (.getfield 22, 3) := dk_180 0 22 (dk_at dksX1_hour_2 1 rfl rfl)
theorem dX1_hour_50 : decode cX1_hour 50 = .ok (.invokevirtual 102, 3) := dk_182 0 102 (dk_at dksX1_hour_2 4 rfl rfl)
theorem dX1_hour_53 : decode cX1_hour 53 = .ok (.if_icmp .ge 74, 3) := dk_162 0 74 (dk_at dksX1_hour_2 7 rfl rfl)
theorem dX1_hour_56 : decode cX1_hour 56 = .ok (.aload_n 0, 1) := dk_42 (dk_at dksX1_hour_2 10 rfl rfl)
theorem dX1_hour_57 : decode cX1_hour 57 = .ok (.getfield 22, 3) := dk_180 0 22 (dk_at dksX1_hour_2 11 rfl rfl)
theorem dX1_hour_60 : decode cX1_hour 60 = .ok (.getfield 114, 3) := dk_180 0 114 (dk_at dksX1_hour_2 14 rfl rfl)
theorem dX1_hour_63 : decode cX1_hour 63 = .ok (.iload_n 2, 1) := dk_28 (dk_at dksX1_hour_2 17 rfl rfl)
theorem dX1_hour_64 : decode cX1_hour 64 = .ok (.invokevirtual 118, 3) := dk_182 0 118 (dk_at dksX1_hour_2 18 rfl rfl)
theorem dX1_hour_67 : decode cX1_hour 67 = .ok (.checkcast 124, 3) := dk_192 0 124 (dk_at dksX1_hour_2 21 rfl rfl)
theorem dX1_hour_70 : decode cX1_hour 70 = .ok (.astore_n 3, 1) := dk_78 (dk_at dksX1_hour_3 0 rfl rfl)
theorem dX1_hour_71 : decode cX1_hour 71 = .ok (.aload_n 0, 1) := dk_42 (dk_at dksX1_hour_3 1 rfl rfl)
theorem dX1_hour_72 : decode cX1_hour 72 = .ok (.getfield 60, 3) := dk_180 0 60 (dk_at dksX1_hour_3 2 rfl rfl)
theorem dX1_hour_75 : decode cX1_hour 75 = .ok (.iload_n 2, 1) := dk_28 (dk_at dksX1_hour_3 5 rfl rfl)
theorem dX1_hour_76 : decode cX1_hour 76 = .ok (.iaload, 1) := dk_46 (dk_at dksX1_hour_3 6 rfl rfl)
theorem dX1_hour_77 : decode cX1_hour 77 = .ok (.aload_n 3, 1) := dk_45 (dk_at dksX1_hour_3 7 rfl rfl)
theorem dX1_hour_78 : decode cX1_hour 78 = .ok (.getfield 299, 3) := dk_180 1 43 (dk_at dksX1_hour_3 8 rfl rfl)
theorem dX1_hour_81 : decode cX1_hour 81 = .ok (.if_icmp .eq 8, 3) := dk_159 0 8 (dk_at dksX1_hour_3 11 rfl rfl)
theorem dX1_hour_84 : decode cX1_hour 84 = .ok (.aload_n 3, 1) := dk_45 (dk_at dksX1_hour_3 14 rfl rfl)
theorem dX1_hour_85 : decode cX1_hour 85 = .ok (.iload_n 1, 1) := dk_27 (dk_at dksX1_hour_3 15 rfl rfl)
theorem dX1_hour_86 : decode cX1_hour 86 = .ok (.putfield 301, 3) := dk_181 1 45 (dk_at dksX1_hour_3 16 rfl rfl)
theorem dX1_hour_89 : decode cX1_hour 89 = .ok (.aload_n 3, 1) := dk_45 (dk_at dksX1_hour_3 19 rfl rfl)
theorem dX1_hour_90 : decode cX1_hour 90 = .ok (.aload_n 0, 1) := dk_42 (dk_at dksX1_hour_3 20 rfl rfl)
theorem dX1_hour_91 : decode cX1_hour 91 = .ok (.getfield 60, 3) := dk_180 0 60 (dk_at dksX1_hour_3 21 rfl rfl)
theorem dX1_hour_94 : decode cX1_hour 94 = .ok (.iload_n 2, 1) := dk_28 (dk_at dksX1_hour_4 0 rfl rfl)
theorem dX1_hour_95 : decode cX1_hour 95 = .ok (.iaload, 1) := dk_46 (dk_at dksX1_hour_4 1 rfl rfl)
theorem dX1_hour_96 : decode cX1_hour 96 = .ok (.putfield 299, 3) := dk_181 1 43 (dk_at dksX1_hour_4 2 rfl rfl)
theorem dX1_hour_99 : decode cX1_hour 99 = .ok (.aload_n 0, 1) := dk_42 (dk_at dksX1_hour_4 5 rfl rfl)
theorem dX1_hour_100 : decode cX1_hour 100 = .ok (.getfield 22, 3) := dk_180 0 22 (dk_at dksX1_hour_4 6 rfl rfl)
theorem dX1_hour_103 : decode cX1_hour 103 = .ok (.getfield 304, 3) := dk_180 1 48 (dk_at dksX1_hour_4 9 rfl rfl)
theorem dX1_hour_106 : decode cX1_hour 106 = .ok (.iload_n 1, 1) := dk_27 (dk_at dksX1_hour_4 12 rfl rfl)
theorem dX1_hour_107 : decode cX1_hour 107 = .ok (.sipush 256, 3) := dk_17 1 0 (dk_at dksX1_hour_4 13 rfl rfl)
theorem dX1_hour_110 : decode cX1_hour 110 = .ok (.irem, 1) := dk_112 (dk_at dksX1_hour_4 16 rfl rfl)
theorem dX1_hour_111 : decode cX1_hour 111 = .ok (.aaload, 1) := dk_50 (dk_at dksX1_hour_4 17 rfl rfl)
theorem dX1_hour_112 : decode cX1_hour 112 = .ok (.iload_n 2, 1) := dk_28 (dk_at dksX1_hour_4 18 rfl rfl)
theorem dX1_hour_113 : decode cX1_hour 113 = .ok (.aload_n 0, 1) := dk_42 (dk_at dksX1_hour_4 19 rfl rfl)
theorem dX1_hour_114 : decode cX1_hour 114 = .ok (.getfield 60, 3) := dk_180 0 60 (dk_at dksX1_hour_4 20 rfl rfl)
theorem dX1_hour_117 : decode cX1_hour 117 = .ok (.iload_n 2, 1) := dk_28 (dk_at dksX1_hour_4 23 rfl rfl)
theorem dX1_hour_118 : decode cX1_hour 118 = .ok (.iaload, 1) := dk_46 (dk_at dksX1_hour_5 0 rfl rfl)
theorem dX1_hour_119 : decode cX1_hour 119 = .ok (.i2b, 1) := dk_145 (dk_at dksX1_hour_5 1 rfl rfl)
theorem dX1_hour_120 : decode cX1_hour 120 = .ok (.bastore, 1) := dk_84 (dk_at dksX1_hour_5 2 rfl rfl)
theorem dX1_hour_121 : decode cX1_hour 121 = .ok (.iinc 2 1, 3) := dk_132 2 1 (dk_at dksX1_hour_5 3 rfl rfl)
theorem dX1_hour_124 : decode cX1_hour 124 = .ok (.goto (-79), 3) := dk_167 255 177 (dk_at dksX1_hour_5 6 rfl rfl)
theorem dX1_hour_127 : decode cX1_hour 127 = .ok (.iconst 0, 1) := dk_3 (dk_at dksX1_hour_5 9 rfl rfl)
theorem dX1_hour_128 : decode cX1_hour 128 = .ok (.istore_n 2, 1) := dk_61 (dk_at dksX1_hour_5 10 rfl rfl)
theorem dX1_hour_129 : decode cX1_hour 129 = .ok (.iload_n 2, 1) := dk_28 (dk_at dksX1_hour_5 11 rfl rfl)
theorem dX1_hour_130 : decode cX1_hour 130 = .ok (.aload_n 0, 1) := dk_42 (dk_at dksX1_hour_5 12 rfl rfl)
theorem dX1_hour_131 : decode cX1_hour 131 = .ok (.getfield 22, 3) := dk_180 0 22 (dk_at dksX1_hour_5 13 rfl rfl)
theorem dX1_hour_134 : decode cX1_hour 134 = .ok (.getfield 159, 3) := dk_180 0 159 (dk_at dksX1_hour_5 16 rfl rfl)
theorem dX1_hour_137 : decode cX1_hour 137 = .ok (.invokevirtual 162, 3) := dk_182 0 162 (dk_at dksX1_hour_5 19 rfl rfl)
theorem dX1_hour_140 : decode cX1_hour 140 = .ok (.if_icmp .ge 123, 3) := dk_162 0 123 (dk_at dksX1_hour_6 0 rfl rfl)
theorem dX1_hour_143 : decode cX1_hour 143 = .ok (.aload_n 0, 1) := dk_42 (dk_at dksX1_hour_6 3 rfl rfl)
theorem dX1_hour_144 : decode cX1_hour 144 = .ok (.getfield 22, 3) := dk_180 0 22 (dk_at dksX1_hour_6 4 rfl rfl)
theorem dX1_hour_147 : decode cX1_hour 147 = .ok (.getfield 159, 3) := dk_180 0 159 (dk_at dksX1_hour_6 7 rfl rfl)
theorem dX1_hour_150 : decode cX1_hour 150 = .ok (.iload_n 2, 1) := dk_28 (dk_at dksX1_hour_6 10 rfl rfl)
theorem dX1_hour_151 : decode cX1_hour 151 = .ok (.invokevirtual 118, 3) := dk_182 0 118 (dk_at dksX1_hour_6 11 rfl rfl)
theorem dX1_hour_154 : decode cX1_hour 154 = .ok (.checkcast 165, 3) := dk_192 0 165 (dk_at dksX1_hour_6 14 rfl rfl)
theorem dX1_hour_157 : decode cX1_hour 157 = .ok (.astore_n 3, 1) := dk_78 (dk_at dksX1_hour_6 17 rfl rfl)
theorem dX1_hour_158 : decode cX1_hour 158 = .ok (.aload_n 0, 1) := dk_42 (dk_at dksX1_hour_6 18 rfl rfl)
theorem dX1_hour_159 : decode cX1_hour 159 = .ok (.aload_n 3, 1) := dk_45 (dk_at dksX1_hour_6 19 rfl rfl)
theorem dX1_hour_160 : decode cX1_hour 160 = .ok (.aload_n 0, 1) := dk_42 (dk_at dksX1_hour_6 20 rfl rfl)
theorem dX1_hour_161 : decode cX1_hour 161 = .ok (.getfield 60, 3) := dk_180 0 60 (dk_at dksX1_hour_6 21 rfl rfl)
theorem dX1_hour_164 : decode cX1_hour 164 = .ok (.invokevirtual 308, 3) := dk_182 1 52 (dk_at dksX1_hour_7 0 rfl rfl)
theorem dX1_hour_167 : decode cX1_hour 167 = .ok (.istore 4, 2) := dk_54 4 (dk_at dksX1_hour_7 3 rfl rfl)
theorem dX1_hour_169 : decode cX1_hour 169 = .ok (.aload_n 0, 1) := dk_42 (dk_at dksX1_hour_7 5 rfl rfl)
theorem dX1_hour_170 : decode cX1_hour 170 = .ok (.getfield 22, 3) := dk_180 0 22 (dk_at dksX1_hour_7 6 rfl rfl)
theorem dX1_hour_173 : decode cX1_hour 173 = .ok (.getfield 114, 3) := dk_180 0 114 (dk_at dksX1_hour_7 9 rfl rfl)
theorem dX1_hour_176 : decode cX1_hour 176 = .ok (.iload 4, 2) := dk_21 4 (dk_at dksX1_hour_7 12 rfl rfl)
theorem dX1_hour_178 : decode cX1_hour 178 = .ok (.invokevirtual 118, 3) := dk_182 0 118 (dk_at dksX1_hour_7 14 rfl rfl)
theorem dX1_hour_181 : decode cX1_hour 181 = .ok (.checkcast 124, 3) := dk_192 0 124 (dk_at dksX1_hour_7 17 rfl rfl)
theorem dX1_hour_184 : decode cX1_hour 184 = .ok (.astore 5, 2) := dk_58 5 (dk_at dksX1_hour_7 20 rfl rfl)
theorem dX1_hour_186 : decode cX1_hour 186 = .ok (.aload 5, 2) := dk_25 5 (dk_at dksX1_hour_7 22 rfl rfl)
theorem dX1_hour_188 : decode cX1_hour 188 = .ok (.dup, 1) := dk_89 (dk_at dksX1_hour_8 0 rfl rfl)
theorem dX1_hour_189 : decode cX1_hour 189 = .ok (.getfield 312, 3) := dk_180 1 56 (dk_at dksX1_hour_8 1 rfl rfl)
theorem dX1_hour_192 : decode cX1_hour 192 = .ok (.aload_n 3, 1) := dk_45 (dk_at dksX1_hour_8 4 rfl rfl)
theorem dX1_hour_193 : decode cX1_hour 193 = .ok (.getfield 316, 3) := dk_180 1 60 (dk_at dksX1_hour_8 5 rfl rfl)
theorem dX1_hour_196 : decode cX1_hour 196 = .ok (.i2l, 1) := dk_133 (dk_at dksX1_hour_8 8 rfl rfl)
theorem dX1_hour_197 : decode cX1_hour 197 = .ok (.aload_n 0, 1) := dk_42 (dk_at dksX1_hour_8 9 rfl rfl)
theorem dX1_hour_198 : decode cX1_hour 198 = .ok (.getfield 60, 3) := dk_180 0 60 (dk_at dksX1_hour_8 10 rfl rfl)
theorem dX1_hour_201 : decode cX1_hour 201 = .ok (.iload 4, 2) := dk_21 4 (dk_at dksX1_hour_8 13 rfl rfl)
theorem dX1_hour_203 : decode cX1_hour 203 = .ok (.iaload, 1) := dk_46 (dk_at dksX1_hour_8 15 rfl rfl)
theorem dX1_hour_204 : decode cX1_hour 204 = .ok (.aload 5, 2) := dk_25 5 (dk_at dksX1_hour_8 16 rfl rfl)
theorem dX1_hour_206 : decode cX1_hour 206 = .ok (.getfield 170, 3) := dk_180 0 170 (dk_at dksX1_hour_8 18 rfl rfl)
theorem dX1_hour_209 : decode cX1_hour 209 = .ok (.isub, 1) := dk_100 (dk_at dksX1_hour_8 21 rfl rfl)
theorem dX1_hour_210 : decode cX1_hour 210 = .ok (.i2l, 1) := dk_133 (dk_at dksX1_hour_8 22 rfl rfl)
theorem dX1_hour_211 : decode cX1_hour 211 = .ok (.lmul, 1) := dk_105 (dk_at dksX1_hour_8 23 rfl rfl)
theorem dX1_hour_212 : decode cX1_hour 212 = .ok (.ladd, 1) := dk_97 (dk_at dksX1_hour_9 0 rfl rfl)
theorem dX1_hour_213 : decode cX1_hour 213 = .ok (.putfield 312, 3) := dk_181 1 56 (dk_at dksX1_hour_9 1 rfl rfl)
theorem dX1_hour_216 : decode cX1_hour 216 = .ok (.aload 5, 2) := dk_25 5 (dk_at dksX1_hour_9 4 rfl rfl)
theorem dX1_hour_218 : decode cX1_hour 218 = .ok (.dup, 1) := dk_89 (dk_at dksX1_hour_9 6 rfl rfl)
theorem dX1_hour_219 : decode cX1_hour 219 = .ok (.getfield 318, 3) := dk_180 1 62 (dk_at dksX1_hour_9 7 rfl rfl)
theorem dX1_hour_222 : decode cX1_hour 222 = .ok (.aload_n 3, 1) := dk_45 (dk_at dksX1_hour_9 10 rfl rfl)
theorem dX1_hour_223 : decode cX1_hour 223 = .ok (.getfield 316, 3) := dk_180 1 60 (dk_at dksX1_hour_9 11 rfl rfl)
theorem dX1_hour_226 : decode cX1_hour 226 = .ok (.i2l, 1) := dk_133 (dk_at dksX1_hour_9 14 rfl rfl)
theorem dX1_hour_227 : decode cX1_hour 227 = .ok (.ladd, 1) := dk_97 (dk_at dksX1_hour_9 15 rfl rfl)
theorem dX1_hour_228 : decode cX1_hour 228 = .ok (.putfield 318, 3) := dk_181 1 62 (dk_at dksX1_hour_9 16 rfl rfl)
theorem dX1_hour_231 : decode cX1_hour 231 = .ok (.aload_n 0, 1) := dk_42 (dk_at dksX1_hour_9 19 rfl rfl)
theorem dX1_hour_232 : decode cX1_hour 232 = .ok (.getfield 22, 3) := dk_180 0 22 (dk_at dksX1_hour_9 20 rfl rfl)
theorem dX1_hour_235 : decode cX1_hour 235 = .ok (.dup, 1) := dk_89 (dk_at dksX1_hour_9 23 rfl rfl)
theorem dX1_hour_236 : decode cX1_hour 236 = .ok (.getfield 321, 3) := dk_180 1 65 (dk_at dksX1_hour_10 0 rfl rfl)
theorem dX1_hour_239 : decode cX1_hour 239 = .ok (.aload_n 3, 1) := dk_45 (dk_at dksX1_hour_10 3 rfl rfl)
theorem dX1_hour_240 : decode cX1_hour 240 = .ok (.getfield 316, 3) := dk_180 1 60 (dk_at dksX1_hour_10 4 rfl rfl)
theorem dX1_hour_243 : decode cX1_hour 243 = .ok (.i2l, 1) := dk_133 (dk_at dksX1_hour_10 7 rfl rfl)
theorem dX1_hour_244 : decode cX1_hour 244 = .ok (.aload_n 0, 1) := dk_42 (dk_at dksX1_hour_10 8 rfl rfl)
theorem dX1_hour_245 : decode cX1_hour 245 = .ok (.getfield 60, 3) := dk_180 0 60 (dk_at dksX1_hour_10 9 rfl rfl)
theorem dX1_hour_248 : decode cX1_hour 248 = .ok (.iload 4, 2) := dk_21 4 (dk_at dksX1_hour_10 12 rfl rfl)
theorem dX1_hour_250 : decode cX1_hour 250 = .ok (.iaload, 1) := dk_46 (dk_at dksX1_hour_10 14 rfl rfl)
theorem dX1_hour_251 : decode cX1_hour 251 = .ok (.i2l, 1) := dk_133 (dk_at dksX1_hour_10 15 rfl rfl)
theorem dX1_hour_252 : decode cX1_hour 252 = .ok (.lmul, 1) := dk_105 (dk_at dksX1_hour_10 16 rfl rfl)
theorem dX1_hour_253 : decode cX1_hour 253 = .ok (.ladd, 1) := dk_97 (dk_at dksX1_hour_10 17 rfl rfl)
theorem dX1_hour_254 : decode cX1_hour 254 = .ok (.putfield 321, 3) := dk_181 1 65 (dk_at dksX1_hour_10 18 rfl rfl)
theorem dX1_hour_257 : decode cX1_hour 257 = .ok (.iinc 2 1, 3) := dk_132 2 1 (dk_at dksX1_hour_10 21 rfl rfl)
theorem dX1_hour_260 : decode cX1_hour 260 = .ok (.goto (-131), 3) := dk_167 255 125 (dk_at dksX1_hour_11 0 rfl rfl)
theorem dX1_hour_263 : decode cX1_hour 263 = .ok (.aload_n 0, 1) := dk_42 (dk_at dksX1_hour_11 3 rfl rfl)
theorem dX1_hour_264 : decode cX1_hour 264 = .ok (.getfield 22, 3) := dk_180 0 22 (dk_at dksX1_hour_11 4 rfl rfl)
theorem dX1_hour_267 : decode cX1_hour 267 = .ok (.dup, 1) := dk_89 (dk_at dksX1_hour_11 7 rfl rfl)
theorem dX1_hour_268 : decode cX1_hour 268 = .ok (.getfield 126, 3) := dk_180 0 126 (dk_at dksX1_hour_11 8 rfl rfl)
theorem dX1_hour_271 : decode cX1_hour 271 = .ok (.iconst 1, 1) := dk_4 (dk_at dksX1_hour_11 11 rfl rfl)
theorem dX1_hour_272 : decode cX1_hour 272 = .ok (.iadd, 1) := dk_96 (dk_at dksX1_hour_11 12 rfl rfl)
theorem dX1_hour_273 : decode cX1_hour 273 = .ok (.putfield 126, 3) := dk_181 0 126 (dk_at dksX1_hour_11 13 rfl rfl)
theorem dX1_hour_276 : decode cX1_hour 276 = .ok (.return_, 1) := dk_177 (dk_at dksX1_hour_11 16 rfl rfl)
abbrev cX1_sets : ByteArray := prog_1_method_20_code
def yX1_sets : MethodName := ⟨RX1, "sets", "(LPumpCrossing$Past;II)I"⟩
def dkwX1_sets_7 : List UInt8 := [153, 0, 8, 21, 6, 167, 0, 5, 21, 5, 172]
abbrev dktX1_sets_7 : List UInt8 := dkwX1_sets_7 ++ []
def dkwX1_sets_6 : List UInt8 := [180, 0, 22, 180, 0, 229, 42, 180, 0, 56, 7, 46, 42, 180, 0, 56, 16, 6, 46, 182, 1, 19]
abbrev dktX1_sets_6 : List UInt8 := dkwX1_sets_6 ++ dktX1_sets_7
def dkwX1_sets_5 : List UInt8 := [21, 6, 21, 5, 25, 4, 180, 0, 170, 182, 1, 13, 54, 6, 21, 6, 21, 5, 159, 0, 29, 42]
abbrev dktX1_sets_5 : List UInt8 := dkwX1_sets_5 ++ dktX1_sets_6
def dkwX1_sets_4 : List UInt8 := [180, 0, 56, 182, 1, 7, 54, 6, 167, 0, 9, 132, 7, 1, 167, 255, 186, 42, 180, 0, 22, 180, 0, 229]
abbrev dktX1_sets_4 : List UInt8 := dkwX1_sets_4 ++ dktX1_sets_5
def dkwX1_sets_3 : List UInt8 := [154, 0, 6, 167, 0, 31, 25, 4, 180, 0, 220, 21, 7, 182, 0, 118, 192, 0, 253, 180, 1, 3, 42]
abbrev dktX1_sets_3 : List UInt8 := dkwX1_sets_3 ++ dktX1_sets_4
def dkwX1_sets_2 : List UInt8 := [162, 0, 63, 25, 4, 180, 0, 220, 21, 7, 182, 0, 118, 192, 0, 253, 42, 180, 0, 56, 182, 0, 255]
abbrev dktX1_sets_2 : List UInt8 := dkwX1_sets_2 ++ dktX1_sets_3
def dkwX1_sets_1 : List UInt8 := [180, 0, 56, 3, 46, 54, 5, 21, 5, 54, 6, 3, 54, 7, 21, 7, 25, 4, 180, 0, 220, 182, 0, 162]
abbrev dktX1_sets_1 : List UInt8 := dkwX1_sets_1 ++ dktX1_sets_2
def dkwX1_sets_0 : List UInt8 := [42, 180, 0, 22, 180, 0, 114, 28, 182, 0, 118, 192, 0, 124, 58, 4, 42, 43, 28, 29, 182, 0, 249, 42]
abbrev dktX1_sets_0 : List UInt8 := dkwX1_sets_0 ++ dktX1_sets_1
theorem dksX1_sets_0 : cX1_sets.data.toList.drop 0 = dktX1_sets_0 := by decide +kernel
theorem dksX1_sets_1 : cX1_sets.data.toList.drop 24 = dktX1_sets_1 := dk_seg dksX1_sets_0 24 rfl rfl
theorem dksX1_sets_2 : cX1_sets.data.toList.drop 48 = dktX1_sets_2 := dk_seg dksX1_sets_1 24 rfl rfl
theorem dksX1_sets_3 : cX1_sets.data.toList.drop 71 = dktX1_sets_3 := dk_seg dksX1_sets_2 23 rfl rfl
theorem dksX1_sets_4 : cX1_sets.data.toList.drop 94 = dktX1_sets_4 := dk_seg dksX1_sets_3 23 rfl rfl
theorem dksX1_sets_5 : cX1_sets.data.toList.drop 118 = dktX1_sets_5 := dk_seg dksX1_sets_4 24 rfl rfl
theorem dksX1_sets_6 : cX1_sets.data.toList.drop 140 = dktX1_sets_6 := dk_seg dksX1_sets_5 22 rfl rfl
theorem dksX1_sets_7 : cX1_sets.data.toList.drop 162 = dktX1_sets_7 := dk_seg dksX1_sets_6 22 rfl rfl
theorem dX1_sets_0 : decode cX1_sets 0 = .ok (.aload_n 0, 1) := dk_42 (dk_at dksX1_sets_0 0 rfl rfl)
theorem dX1_sets_1 : decode cX1_sets 1 = .ok (.getfield 22, 3) := dk_180 0 22 (dk_at dksX1_sets_0 1 rfl rfl)
theorem dX1_sets_4 : decode cX1_sets 4 = .ok (.getfield 114, 3) := dk_180 0 114 (dk_at dksX1_sets_0 4 rfl rfl)
theorem dX1_sets_7 : decode cX1_sets 7 = .ok (.iload_n 2, 1) := dk_28 (dk_at dksX1_sets_0 7 rfl rfl)
theorem dX1_sets_8 : decode cX1_sets 8 = .ok (.invokevirtual 118, 3) := dk_182 0 118 (dk_at dksX1_sets_0 8 rfl rfl)
theorem dX1_sets_11 : decode cX1_sets 11 = .ok (.checkcast 124, 3) := dk_192 0 124 (dk_at dksX1_sets_0 11 rfl rfl)
theorem dX1_sets_14 : decode cX1_sets 14 = .ok (.astore 4, 2) := dk_58 4 (dk_at dksX1_sets_0 14 rfl rfl)
theorem dX1_sets_16 : decode cX1_sets 16 = .ok (.aload_n 0, 1) := dk_42 (dk_at dksX1_sets_0 16 rfl rfl)
theorem dX1_sets_17 : decode cX1_sets 17 = .ok (.aload_n 1, 1) := dk_43 (dk_at dksX1_sets_0 17 rfl rfl)
theorem dX1_sets_18 : decode cX1_sets 18 = .ok (.iload_n 2, 1) := dk_28 (dk_at dksX1_sets_0 18 rfl rfl)
theorem dX1_sets_19 : decode cX1_sets 19 = .ok (.iload_n 3, 1) := dk_29 (dk_at dksX1_sets_0 19 rfl rfl)
theorem dX1_sets_20 : decode cX1_sets 20 = .ok (.invokevirtual 249, 3) := dk_182 0 249 (dk_at dksX1_sets_0 20 rfl rfl)
theorem dX1_sets_23 : decode cX1_sets 23 = .ok (.aload_n 0, 1) := dk_42 (dk_at dksX1_sets_0 23 rfl rfl)
theorem dX1_sets_24 : decode cX1_sets 24 = .ok (.getfield 56, 3) := dk_180 0 56 (dk_at dksX1_sets_1 0 rfl rfl)
theorem dX1_sets_27 : decode cX1_sets 27 = .ok (.iconst 0, 1) := dk_3 (dk_at dksX1_sets_1 3 rfl rfl)
theorem dX1_sets_28 : decode cX1_sets 28 = .ok (.iaload, 1) := dk_46 (dk_at dksX1_sets_1 4 rfl rfl)
theorem dX1_sets_29 : decode cX1_sets 29 = .ok (.istore 5, 2) := dk_54 5 (dk_at dksX1_sets_1 5 rfl rfl)
theorem dX1_sets_31 : decode cX1_sets 31 = .ok (.iload 5, 2) := dk_21 5 (dk_at dksX1_sets_1 7 rfl rfl)
theorem dX1_sets_33 : decode cX1_sets 33 = .ok (.istore 6, 2) := dk_54 6 (dk_at dksX1_sets_1 9 rfl rfl)
theorem dX1_sets_35 : decode cX1_sets 35 = .ok (.iconst 0, 1) := dk_3 (dk_at dksX1_sets_1 11 rfl rfl)
theorem dX1_sets_36 : decode cX1_sets 36 = .ok (.istore 7, 2) := dk_54 7 (dk_at dksX1_sets_1 12 rfl rfl)
theorem dX1_sets_38 : decode cX1_sets 38 = .ok (.iload 7, 2) := dk_21 7 (dk_at dksX1_sets_1 14 rfl rfl)
theorem dX1_sets_40 : decode cX1_sets 40 = .ok (.aload 4, 2) := dk_25 4 (dk_at dksX1_sets_1 16 rfl rfl)
theorem dX1_sets_42 : decode cX1_sets 42 = .ok (.getfield 220, 3) := dk_180 0 220 (dk_at dksX1_sets_1 18 rfl rfl)
theorem dX1_sets_45 : decode cX1_sets 45 = .ok (.invokevirtual 162, 3) := dk_182 0 162 (dk_at dksX1_sets_1 21 rfl rfl)
theorem dX1_sets_48 : decode cX1_sets 48 = .ok (.if_icmp .ge 63, 3) := dk_162 0 63 (dk_at dksX1_sets_2 0 rfl rfl)
theorem dX1_sets_51 : decode cX1_sets 51 = .ok (.aload 4, 2) := dk_25 4 (dk_at dksX1_sets_2 3 rfl rfl)
theorem dX1_sets_53 : decode cX1_sets 53 = .ok (.getfield 220, 3) := dk_180 0 220 (dk_at dksX1_sets_2 5 rfl rfl)
theorem dX1_sets_56 : decode cX1_sets 56 = .ok (.iload 7, 2) := dk_21 7 (dk_at dksX1_sets_2 8 rfl rfl)
theorem dX1_sets_58 : decode cX1_sets 58 = .ok (.invokevirtual 118, 3) := dk_182 0 118 (dk_at dksX1_sets_2 10 rfl rfl)
theorem dX1_sets_61 : decode cX1_sets 61 = .ok (.checkcast 253, 3) := dk_192 0 253 (dk_at dksX1_sets_2 13 rfl rfl)
theorem dX1_sets_64 : decode cX1_sets 64 = .ok (.aload_n 0, 1) := dk_42 (dk_at dksX1_sets_2 16 rfl rfl)
theorem dX1_sets_65 : decode cX1_sets 65 = .ok (.getfield 56, 3) := dk_180 0 56 (dk_at dksX1_sets_2 17 rfl rfl)
theorem dX1_sets_68 : decode cX1_sets 68 = .ok (.invokevirtual 255, 3) := dk_182 0 255 (dk_at dksX1_sets_2 20 rfl rfl)
theorem dX1_sets_71 : decode cX1_sets 71 = .ok (.ifCond .ne 6, 3) := dk_154 0 6 (dk_at dksX1_sets_3 0 rfl rfl)
theorem dX1_sets_74 : decode cX1_sets 74 = .ok (.goto 31, 3) := dk_167 0 31 (dk_at dksX1_sets_3 3 rfl rfl)
theorem dX1_sets_77 : decode cX1_sets 77 = .ok (.aload 4, 2) := dk_25 4 (dk_at dksX1_sets_3 6 rfl rfl)
theorem dX1_sets_79 : decode cX1_sets 79 = .ok (.getfield 220, 3) := dk_180 0 220 (dk_at dksX1_sets_3 8 rfl rfl)
theorem dX1_sets_82 : decode cX1_sets 82 = .ok (.iload 7, 2) := dk_21 7 (dk_at dksX1_sets_3 11 rfl rfl)
theorem dX1_sets_84 : decode cX1_sets 84 = .ok (.invokevirtual 118, 3) := dk_182 0 118 (dk_at dksX1_sets_3 13 rfl rfl)
theorem dX1_sets_87 : decode cX1_sets 87 = .ok (.checkcast 253, 3) := dk_192 0 253 (dk_at dksX1_sets_3 16 rfl rfl)
theorem dX1_sets_90 : decode cX1_sets 90 = .ok (.getfield 259, 3) := dk_180 1 3 (dk_at dksX1_sets_3 19 rfl rfl)
theorem dX1_sets_93 : decode cX1_sets 93 = .ok (.aload_n 0, 1) := dk_42 (dk_at dksX1_sets_3 22 rfl rfl)
theorem dX1_sets_94 : decode cX1_sets 94 = .ok (.getfield 56, 3) := dk_180 0 56 (dk_at dksX1_sets_4 0 rfl rfl)
theorem dX1_sets_97 : decode cX1_sets 97 = .ok (.invokevirtual 263, 3) := dk_182 1 7 (dk_at dksX1_sets_4 3 rfl rfl)
theorem dX1_sets_100 : decode cX1_sets 100 = .ok (.istore 6, 2) := dk_54 6 (dk_at dksX1_sets_4 6 rfl rfl)
theorem dX1_sets_102 : decode cX1_sets 102 = .ok (.goto 9, 3) := dk_167 0 9 (dk_at dksX1_sets_4 8 rfl rfl)
theorem dX1_sets_105 : decode cX1_sets 105 = .ok (.iinc 7 1, 3) := dk_132 7 1 (dk_at dksX1_sets_4 11 rfl rfl)
theorem dX1_sets_108 : decode cX1_sets 108 = .ok (.goto (-70), 3) := dk_167 255 186 (dk_at dksX1_sets_4 14 rfl rfl)
theorem dX1_sets_111 : decode cX1_sets 111 = .ok (.aload_n 0, 1) := dk_42 (dk_at dksX1_sets_4 17 rfl rfl)
theorem dX1_sets_112 : decode cX1_sets 112 = .ok (.getfield 22, 3) := dk_180 0 22 (dk_at dksX1_sets_4 18 rfl rfl)
theorem dX1_sets_115 : decode cX1_sets 115 = .ok (.getfield 229, 3) := dk_180 0 229 (dk_at dksX1_sets_4 21 rfl rfl)
theorem dX1_sets_118 : decode cX1_sets 118 = .ok (.iload 6, 2) := dk_21 6 (dk_at dksX1_sets_5 0 rfl rfl)
theorem dX1_sets_120 : decode cX1_sets 120 = .ok (.iload 5, 2) := dk_21 5 (dk_at dksX1_sets_5 2 rfl rfl)
theorem dX1_sets_122 : decode cX1_sets 122 = .ok (.aload 4, 2) := dk_25 4 (dk_at dksX1_sets_5 4 rfl rfl)
theorem dX1_sets_124 : decode cX1_sets 124 = .ok (.getfield 170, 3) := dk_180 0 170 (dk_at dksX1_sets_5 6 rfl rfl)
theorem dX1_sets_127 : decode cX1_sets 127 = .ok (.invokevirtual 269, 3) := dk_182 1 13 (dk_at dksX1_sets_5 9 rfl rfl)
theorem dX1_sets_130 : decode cX1_sets 130 = .ok (.istore 6, 2) := dk_54 6 (dk_at dksX1_sets_5 12 rfl rfl)
theorem dX1_sets_132 : decode cX1_sets 132 = .ok (.iload 6, 2) := dk_21 6 (dk_at dksX1_sets_5 14 rfl rfl)
theorem dX1_sets_134 : decode cX1_sets 134 = .ok (.iload 5, 2) := dk_21 5 (dk_at dksX1_sets_5 16 rfl rfl)
theorem dX1_sets_136 : decode cX1_sets 136 = .ok (.if_icmp .eq 29, 3) := dk_159 0 29 (dk_at dksX1_sets_5 18 rfl rfl)
theorem dX1_sets_139 : decode cX1_sets 139 = .ok (.aload_n 0, 1) := dk_42 (dk_at dksX1_sets_5 21 rfl rfl)
theorem dX1_sets_140 : decode cX1_sets 140 = .ok (.getfield 22, 3) := dk_180 0 22 (dk_at dksX1_sets_6 0 rfl rfl)
theorem dX1_sets_143 : decode cX1_sets 143 = .ok (.getfield 229, 3) := dk_180 0 229 (dk_at dksX1_sets_6 3 rfl rfl)
theorem dX1_sets_146 : decode cX1_sets 146 = .ok (.aload_n 0, 1) := dk_42 (dk_at dksX1_sets_6 6 rfl rfl)
theorem dX1_sets_147 : decode cX1_sets 147 = .ok (.getfield 56, 3) := dk_180 0 56 (dk_at dksX1_sets_6 7 rfl rfl)
theorem dX1_sets_150 : decode cX1_sets 150 = .ok (.iconst 4, 1) := dk_7 (dk_at dksX1_sets_6 10 rfl rfl)
theorem dX1_sets_151 : decode cX1_sets 151 = .ok (.iaload, 1) := dk_46 (dk_at dksX1_sets_6 11 rfl rfl)
theorem dX1_sets_152 : decode cX1_sets 152 = .ok (.aload_n 0, 1) := dk_42 (dk_at dksX1_sets_6 12 rfl rfl)
theorem dX1_sets_153 : decode cX1_sets 153 = .ok (.getfield 56, 3) := dk_180 0 56 (dk_at dksX1_sets_6 13 rfl rfl)
theorem dX1_sets_156 : decode cX1_sets 156 = .ok (.bipush 6, 2) := dk_16 6 (dk_at dksX1_sets_6 16 rfl rfl)
theorem dX1_sets_158 : decode cX1_sets 158 = .ok (.iaload, 1) := dk_46 (dk_at dksX1_sets_6 18 rfl rfl)
theorem dX1_sets_159 : decode cX1_sets 159 = .ok (.invokevirtual 275, 3) := dk_182 1 19 (dk_at dksX1_sets_6 19 rfl rfl)
theorem dX1_sets_162 : decode cX1_sets 162 = .ok (.ifCond .eq 8, 3) := dk_153 0 8 (dk_at dksX1_sets_7 0 rfl rfl)
theorem dX1_sets_165 : decode cX1_sets 165 = .ok (.iload 6, 2) := dk_21 6 (dk_at dksX1_sets_7 3 rfl rfl)
theorem dX1_sets_167 : decode cX1_sets 167 = .ok (.goto 5, 3) := dk_167 0 5 (dk_at dksX1_sets_7 5 rfl rfl)
theorem dX1_sets_170 : decode cX1_sets 170 = .ok (.iload 5, 2) := dk_21 5 (dk_at dksX1_sets_7 8 rfl rfl)
theorem dX1_sets_172 : decode cX1_sets 172 = .ok (.ireturn, 1) := dk_172 (dk_at dksX1_sets_7 10 rfl rfl)
abbrev cX1_looks : ByteArray := prog_1_method_19_code
def yX1_looks : MethodName := ⟨RX1, "looks", "(LPumpCrossing$Past;II)V"⟩
def dkwX1_looks_11 : List UInt8 := [42, 180, 0, 56, 16, 7, 21, 8, 79, 42, 180, 0, 56, 16, 8, 21, 9, 79, 177]
abbrev dktX1_looks_11 : List UInt8 := dkwX1_looks_11 ++ []
def dkwX1_looks_10 : List UInt8 := [8, 29, 16, 24, 108, 16, 7, 112, 79, 42, 180, 0, 56, 16, 6, 43, 28, 29, 185, 0, 246, 3, 0, 79]
abbrev dktX1_looks_10 : List UInt8 := dkwX1_looks_10 ++ dktX1_looks_11
def dkwX1_looks_9 : List UInt8 := [180, 0, 56, 6, 25, 4, 180, 0, 170, 79, 42, 180, 0, 56, 7, 29, 16, 24, 112, 79, 42, 180, 0, 56]
abbrev dktX1_looks_9 : List UInt8 := dkwX1_looks_9 ++ dktX1_looks_10
def dkwX1_looks_8 : List UInt8 := [21, 6, 79, 42, 180, 0, 56, 5, 21, 7, 2, 160, 0, 8, 21, 5, 167, 0, 5, 21, 7, 79, 42]
abbrev dktX1_looks_8 : List UInt8 := dkwX1_looks_8 ++ dktX1_looks_9
def dkwX1_looks_7 : List UInt8 := [180, 0, 56, 3, 21, 5, 79, 42, 180, 0, 56, 4, 21, 7, 2, 160, 0, 8, 21, 5, 167, 0, 5]
abbrev dktX1_looks_7 : List UInt8 := dkwX1_looks_7 ++ dktX1_looks_8
def dkwX1_looks_6 : List UInt8 := [21, 11, 21, 12, 162, 0, 7, 4, 167, 0, 4, 3, 96, 54, 9, 132, 10, 1, 167, 255, 142, 42]
abbrev dktX1_looks_6 : List UInt8 := dkwX1_looks_6 ++ dktX1_looks_7
def dkwX1_looks_5 : List UInt8 := [184, 0, 243, 54, 7, 21, 8, 21, 11, 21, 12, 164, 0, 7, 4, 167, 0, 4, 3, 96, 54, 8, 21, 9]
abbrev dktX1_looks_5 : List UInt8 := dkwX1_looks_5 ++ dktX1_looks_6
def dkwX1_looks_4 : List UInt8 := [180, 0, 182, 100, 185, 0, 232, 3, 0, 54, 12, 21, 6, 21, 11, 184, 0, 238, 54, 6, 21, 7, 21, 11]
abbrev dktX1_looks_4 : List UInt8 := dkwX1_looks_4 ++ dktX1_looks_5
def dkwX1_looks_3 : List UInt8 := [29, 4, 100, 25, 4, 180, 0, 182, 100, 185, 0, 232, 3, 0, 54, 11, 43, 21, 10, 29, 5, 100, 25, 4]
abbrev dktX1_looks_3 : List UInt8 := dkwX1_looks_3 ++ dktX1_looks_4
def dkwX1_looks_2 : List UInt8 := [21, 10, 42, 180, 0, 22, 182, 0, 102, 162, 0, 108, 21, 10, 28, 160, 0, 6, 167, 0, 93, 43, 21, 10]
abbrev dktX1_looks_2 : List UInt8 := dkwX1_looks_2 ++ dktX1_looks_3
def dkwX1_looks_1 : List UInt8 := [185, 0, 232, 3, 0, 54, 5, 16, 100, 54, 6, 2, 54, 7, 3, 54, 8, 3, 54, 9, 3, 54, 10]
abbrev dktX1_looks_1 : List UInt8 := dkwX1_looks_1 ++ dktX1_looks_2
def dkwX1_looks_0 : List UInt8 := [42, 180, 0, 22, 180, 0, 114, 28, 182, 0, 118, 192, 0, 124, 58, 4, 43, 28, 29, 4, 100]
abbrev dktX1_looks_0 : List UInt8 := dkwX1_looks_0 ++ dktX1_looks_1
theorem dksX1_looks_0 : cX1_looks.data.toList.drop 0 = dktX1_looks_0 := by decide +kernel
theorem dksX1_looks_1 : cX1_looks.data.toList.drop 21 = dktX1_looks_1 := dk_seg dksX1_looks_0 21 rfl rfl
theorem dksX1_looks_2 : cX1_looks.data.toList.drop 44 = dktX1_looks_2 := dk_seg dksX1_looks_1 23 rfl rfl
theorem dksX1_looks_3 : cX1_looks.data.toList.drop 68 = dktX1_looks_3 := dk_seg dksX1_looks_2 24 rfl rfl
theorem dksX1_looks_4 : cX1_looks.data.toList.drop 92 = dktX1_looks_4 := dk_seg dksX1_looks_3 24 rfl rfl
theorem dksX1_looks_5 : cX1_looks.data.toList.drop 116 = dktX1_looks_5 := dk_seg dksX1_looks_4 24 rfl rfl
theorem dksX1_looks_6 : cX1_looks.data.toList.drop 140 = dktX1_looks_6 := dk_seg dksX1_looks_5 24 rfl rfl
theorem dksX1_looks_7 : cX1_looks.data.toList.drop 162 = dktX1_looks_7 := dk_seg dksX1_looks_6 22 rfl rfl
theorem dksX1_looks_8 : cX1_looks.data.toList.drop 185 = dktX1_looks_8 := dk_seg dksX1_looks_7 23 rfl rfl
theorem dksX1_looks_9 : cX1_looks.data.toList.drop 208 = dktX1_looks_9 := dk_seg dksX1_looks_8 23 rfl rfl
theorem dksX1_looks_10 : cX1_looks.data.toList.drop 232 = dktX1_looks_10 := dk_seg dksX1_looks_9 24 rfl rfl
theorem dksX1_looks_11 : cX1_looks.data.toList.drop 256 = dktX1_looks_11 := dk_seg dksX1_looks_10 24 rfl rfl
theorem dX1_looks_0 : decode cX1_looks 0 = .ok (.aload_n 0, 1) := dk_42 (dk_at dksX1_looks_0 0 rfl rfl)
theorem dX1_looks_1 : decode cX1_looks 1 = .ok (.getfield 22, 3) := dk_180 0 22 (dk_at dksX1_looks_0 1 rfl rfl)
theorem dX1_looks_4 : decode cX1_looks 4 = .ok (.getfield 114, 3) := dk_180 0 114 (dk_at dksX1_looks_0 4 rfl rfl)
theorem dX1_looks_7 : decode cX1_looks 7 = .ok (.iload_n 2, 1) := dk_28 (dk_at dksX1_looks_0 7 rfl rfl)
theorem dX1_looks_8 : decode cX1_looks 8 = .ok (.invokevirtual 118, 3) := dk_182 0 118 (dk_at dksX1_looks_0 8 rfl rfl)
theorem dX1_looks_11 : decode cX1_looks 11 = .ok (.checkcast 124, 3) := dk_192 0 124 (dk_at dksX1_looks_0 11 rfl rfl)
theorem dX1_looks_14 : decode cX1_looks 14 = .ok (.astore 4, 2) := dk_58 4 (dk_at dksX1_looks_0 14 rfl rfl)
theorem dX1_looks_16 : decode cX1_looks 16 = .ok (.aload_n 1, 1) := dk_43 (dk_at dksX1_looks_0 16 rfl rfl)
theorem dX1_looks_17 : decode cX1_looks 17 = .ok (.iload_n 2, 1) := dk_28 (dk_at dksX1_looks_0 17 rfl rfl)
theorem dX1_looks_18 : decode cX1_looks 18 = .ok (.iload_n 3, 1) := dk_29 (dk_at dksX1_looks_0 18 rfl rfl)
theorem dX1_looks_19 : decode cX1_looks 19 = .ok (.iconst 1, 1) := dk_4 (dk_at dksX1_looks_0 19 rfl rfl)
theorem dX1_looks_20 : decode cX1_looks 20 = .ok (.isub, 1) := dk_100 (dk_at dksX1_looks_0 20 rfl rfl)
theorem dX1_looks_21 : decode cX1_looks 21 = .ok (.invokeinterface 232 3, 5) := by decide +kernel
theorem dX1_looks_26 : decode cX1_looks 26 = .ok (.istore 5, 2) := dk_54 5 (dk_at dksX1_looks_1 5 rfl rfl)
theorem dX1_looks_28 : decode cX1_looks 28 = .ok (.bipush 100, 2) := dk_16 100 (dk_at dksX1_looks_1 7 rfl rfl)
theorem dX1_looks_30 : decode cX1_looks 30 = .ok (.istore 6, 2) := dk_54 6 (dk_at dksX1_looks_1 9 rfl rfl)
theorem dX1_looks_32 : decode cX1_looks 32 = .ok (.iconst (-1), 1) := dk_2 (dk_at dksX1_looks_1 11 rfl rfl)
theorem dX1_looks_33 : decode cX1_looks 33 = .ok (.istore 7, 2) := dk_54 7 (dk_at dksX1_looks_1 12 rfl rfl)
theorem dX1_looks_35 : decode cX1_looks 35 = .ok (.iconst 0, 1) := dk_3 (dk_at dksX1_looks_1 14 rfl rfl)
theorem dX1_looks_36 : decode cX1_looks 36 = .ok (.istore 8, 2) := dk_54 8 (dk_at dksX1_looks_1 15 rfl rfl)
theorem dX1_looks_38 : decode cX1_looks 38 = .ok (.iconst 0, 1) := dk_3 (dk_at dksX1_looks_1 17 rfl rfl)
theorem dX1_looks_39 : decode cX1_looks 39 = .ok (.istore 9, 2) := dk_54 9 (dk_at dksX1_looks_1 18 rfl rfl)
theorem dX1_looks_41 : decode cX1_looks 41 = .ok (.iconst 0, 1) := dk_3 (dk_at dksX1_looks_1 20 rfl rfl)
theorem dX1_looks_42 : decode cX1_looks 42 = .ok (.istore 10, 2) := dk_54 10 (dk_at dksX1_looks_1 21 rfl rfl)
theorem dX1_looks_44 : decode cX1_looks 44 = .ok (.iload 10, 2) := dk_21 10 (dk_at dksX1_looks_2 0 rfl rfl)
theorem dX1_looks_46 : decode cX1_looks 46 = .ok (.aload_n 0, 1) := dk_42 (dk_at dksX1_looks_2 2 rfl rfl)
theorem dX1_looks_47 : decode cX1_looks 47 = .ok (.getfield 22, 3) := dk_180 0 22 (dk_at dksX1_looks_2 3 rfl rfl)
theorem dX1_looks_50 : decode cX1_looks 50 = .ok (.invokevirtual 102, 3) := dk_182 0 102 (dk_at dksX1_looks_2 6 rfl rfl)
theorem dX1_looks_53 : decode cX1_looks 53 = .ok (.if_icmp .ge 108, 3) := dk_162 0 108 (dk_at dksX1_looks_2 9 rfl rfl)
theorem dX1_looks_56 : decode cX1_looks 56 = .ok (.iload 10, 2) := dk_21 10 (dk_at dksX1_looks_2 12 rfl rfl)
theorem dX1_looks_58 : decode cX1_looks 58 = .ok (.iload_n 2, 1) := dk_28 (dk_at dksX1_looks_2 14 rfl rfl)
theorem dX1_looks_59 : decode cX1_looks 59 = .ok (.if_icmp .ne 6, 3) := dk_160 0 6 (dk_at dksX1_looks_2 15 rfl rfl)
theorem dX1_looks_62 : decode cX1_looks 62 = .ok (.goto 93, 3) := dk_167 0 93 (dk_at dksX1_looks_2 18 rfl rfl)
theorem dX1_looks_65 : decode cX1_looks 65 = .ok (.aload_n 1, 1) := dk_43 (dk_at dksX1_looks_2 21 rfl rfl)
theorem dX1_looks_66 : decode cX1_looks 66 = .ok (.iload 10, 2) := dk_21 10 (dk_at dksX1_looks_2 22 rfl rfl)
theorem dX1_looks_68 : decode cX1_looks 68 = .ok (.iload_n 3, 1) := dk_29 (dk_at dksX1_looks_3 0 rfl rfl)
theorem dX1_looks_69 : decode cX1_looks 69 = .ok (.iconst 1, 1) := dk_4 (dk_at dksX1_looks_3 1 rfl rfl)
theorem dX1_looks_70 : decode cX1_looks 70 = .ok (.isub, 1) := dk_100 (dk_at dksX1_looks_3 2 rfl rfl)
theorem dX1_looks_71 : decode cX1_looks 71 = .ok (.aload 4, 2) := dk_25 4 (dk_at dksX1_looks_3 3 rfl rfl)
theorem dX1_looks_73 : decode cX1_looks 73 = .ok (.getfield 182, 3) := dk_180 0 182 (dk_at dksX1_looks_3 5 rfl rfl)
theorem dX1_looks_76 : decode cX1_looks 76 = .ok (.isub, 1) := dk_100 (dk_at dksX1_looks_3 8 rfl rfl)
theorem dX1_looks_77 : decode cX1_looks 77 = .ok (.invokeinterface 232 3, 5) := by decide +kernel
theorem dX1_looks_82 : decode cX1_looks 82 = .ok (.istore 11, 2) := dk_54 11 (dk_at dksX1_looks_3 14 rfl rfl)
theorem dX1_looks_84 : decode cX1_looks 84 = .ok (.aload_n 1, 1) := dk_43 (dk_at dksX1_looks_3 16 rfl rfl)
theorem dX1_looks_85 : decode cX1_looks 85 = .ok (.iload 10, 2) := dk_21 10 (dk_at dksX1_looks_3 17 rfl rfl)
theorem dX1_looks_87 : decode cX1_looks 87 = .ok (.iload_n 3, 1) := dk_29 (dk_at dksX1_looks_3 19 rfl rfl)
theorem dX1_looks_88 : decode cX1_looks 88 = .ok (.iconst 2, 1) := dk_5 (dk_at dksX1_looks_3 20 rfl rfl)
theorem dX1_looks_89 : decode cX1_looks 89 = .ok (.isub, 1) := dk_100 (dk_at dksX1_looks_3 21 rfl rfl)
theorem dX1_looks_90 : decode cX1_looks 90 = .ok (.aload 4, 2) := dk_25 4 (dk_at dksX1_looks_3 22 rfl rfl)
theorem dX1_looks_92 : decode cX1_looks 92 = .ok (.getfield 182, 3) := dk_180 0 182 (dk_at dksX1_looks_4 0 rfl rfl)
theorem dX1_looks_95 : decode cX1_looks 95 = .ok (.isub, 1) := dk_100 (dk_at dksX1_looks_4 3 rfl rfl)
theorem dX1_looks_96 : decode cX1_looks 96 = .ok (.invokeinterface 232 3, 5) := by decide +kernel
theorem dX1_looks_101 : decode cX1_looks 101 = .ok (.istore 12, 2) := dk_54 12 (dk_at dksX1_looks_4 9 rfl rfl)
theorem dX1_looks_103 : decode cX1_looks 103 = .ok (.iload 6, 2) := dk_21 6 (dk_at dksX1_looks_4 11 rfl rfl)
theorem dX1_looks_105 : decode cX1_looks 105 = .ok (.iload 11, 2) := dk_21 11 (dk_at dksX1_looks_4 13 rfl rfl)
theorem dX1_looks_107 : decode cX1_looks 107 = .ok (.invokestatic 238, 3) := dk_184 0 238 (dk_at dksX1_looks_4 15 rfl rfl)
theorem dX1_looks_110 : decode cX1_looks 110 = .ok (.istore 6, 2) := dk_54 6 (dk_at dksX1_looks_4 18 rfl rfl)
theorem dX1_looks_112 : decode cX1_looks 112 = .ok (.iload 7, 2) := dk_21 7 (dk_at dksX1_looks_4 20 rfl rfl)
theorem dX1_looks_114 : decode cX1_looks 114 = .ok (.iload 11, 2) := dk_21 11 (dk_at dksX1_looks_4 22 rfl rfl)
theorem dX1_looks_116 : decode cX1_looks 116 = .ok (.invokestatic 243, 3) := dk_184 0 243 (dk_at dksX1_looks_5 0 rfl rfl)
theorem dX1_looks_119 : decode cX1_looks 119 = .ok (.istore 7, 2) := dk_54 7 (dk_at dksX1_looks_5 3 rfl rfl)
theorem dX1_looks_121 : decode cX1_looks 121 = .ok (.iload 8, 2) := dk_21 8 (dk_at dksX1_looks_5 5 rfl rfl)
theorem dX1_looks_123 : decode cX1_looks 123 = .ok (.iload 11, 2) := dk_21 11 (dk_at dksX1_looks_5 7 rfl rfl)
theorem dX1_looks_125 : decode cX1_looks 125 = .ok (.iload 12, 2) := dk_21 12 (dk_at dksX1_looks_5 9 rfl rfl)
theorem dX1_looks_127 : decode cX1_looks 127 = .ok (.if_icmp .le 7, 3) := dk_164 0 7 (dk_at dksX1_looks_5 11 rfl rfl)
theorem dX1_looks_130 : decode cX1_looks 130 = .ok (.iconst 1, 1) := dk_4 (dk_at dksX1_looks_5 14 rfl rfl)
theorem dX1_looks_131 : decode cX1_looks 131 = .ok (.goto 4, 3) := dk_167 0 4 (dk_at dksX1_looks_5 15 rfl rfl)
theorem dX1_looks_134 : decode cX1_looks 134 = .ok (.iconst 0, 1) := dk_3 (dk_at dksX1_looks_5 18 rfl rfl)
theorem dX1_looks_135 : decode cX1_looks 135 = .ok (.iadd, 1) := dk_96 (dk_at dksX1_looks_5 19 rfl rfl)
theorem dX1_looks_136 : decode cX1_looks 136 = .ok (.istore 8, 2) := dk_54 8 (dk_at dksX1_looks_5 20 rfl rfl)
theorem dX1_looks_138 : decode cX1_looks 138 = .ok (.iload 9, 2) := dk_21 9 (dk_at dksX1_looks_5 22 rfl rfl)
theorem dX1_looks_140 : decode cX1_looks 140 = .ok (.iload 11, 2) := dk_21 11 (dk_at dksX1_looks_6 0 rfl rfl)
theorem dX1_looks_142 : decode cX1_looks 142 = .ok (.iload 12, 2) := dk_21 12 (dk_at dksX1_looks_6 2 rfl rfl)
theorem dX1_looks_144 : decode cX1_looks 144 = .ok (.if_icmp .ge 7, 3) := dk_162 0 7 (dk_at dksX1_looks_6 4 rfl rfl)
theorem dX1_looks_147 : decode cX1_looks 147 = .ok (.iconst 1, 1) := dk_4 (dk_at dksX1_looks_6 7 rfl rfl)
theorem dX1_looks_148 : decode cX1_looks 148 = .ok (.goto 4, 3) := dk_167 0 4 (dk_at dksX1_looks_6 8 rfl rfl)
theorem dX1_looks_151 : decode cX1_looks 151 = .ok (.iconst 0, 1) := dk_3 (dk_at dksX1_looks_6 11 rfl rfl)
theorem dX1_looks_152 : decode cX1_looks 152 = .ok (.iadd, 1) := dk_96 (dk_at dksX1_looks_6 12 rfl rfl)
theorem dX1_looks_153 : decode cX1_looks 153 = .ok (.istore 9, 2) := dk_54 9 (dk_at dksX1_looks_6 13 rfl rfl)
theorem dX1_looks_155 : decode cX1_looks 155 = .ok (.iinc 10 1, 3) := dk_132 10 1 (dk_at dksX1_looks_6 15 rfl rfl)
theorem dX1_looks_158 : decode cX1_looks 158 = .ok (.goto (-114), 3) := dk_167 255 142 (dk_at dksX1_looks_6 18 rfl rfl)
theorem dX1_looks_161 : decode cX1_looks 161 = .ok (.aload_n 0, 1) := dk_42 (dk_at dksX1_looks_6 21 rfl rfl)
theorem dX1_looks_162 : decode cX1_looks 162 = .ok (.getfield 56, 3) := dk_180 0 56 (dk_at dksX1_looks_7 0 rfl rfl)
theorem dX1_looks_165 : decode cX1_looks 165 = .ok (.iconst 0, 1) := dk_3 (dk_at dksX1_looks_7 3 rfl rfl)
theorem dX1_looks_166 : decode cX1_looks 166 = .ok (.iload 5, 2) := dk_21 5 (dk_at dksX1_looks_7 4 rfl rfl)
theorem dX1_looks_168 : decode cX1_looks 168 = .ok (.iastore, 1) := dk_79 (dk_at dksX1_looks_7 6 rfl rfl)
theorem dX1_looks_169 : decode cX1_looks 169 = .ok (.aload_n 0, 1) := dk_42 (dk_at dksX1_looks_7 7 rfl rfl)
theorem dX1_looks_170 : decode cX1_looks 170 = .ok (.getfield 56, 3) := dk_180 0 56 (dk_at dksX1_looks_7 8 rfl rfl)
theorem dX1_looks_173 : decode cX1_looks 173 = .ok (.iconst 1, 1) := dk_4 (dk_at dksX1_looks_7 11 rfl rfl)
theorem dX1_looks_174 : decode cX1_looks 174 = .ok (.iload 7, 2) := dk_21 7 (dk_at dksX1_looks_7 12 rfl rfl)
theorem dX1_looks_176 : decode cX1_looks 176 = .ok (.iconst (-1), 1) := dk_2 (dk_at dksX1_looks_7 14 rfl rfl)
theorem dX1_looks_177 : decode cX1_looks 177 = .ok (.if_icmp .ne 8, 3) := dk_160 0 8 (dk_at dksX1_looks_7 15 rfl rfl)
theorem dX1_looks_180 : decode cX1_looks 180 = .ok (.iload 5, 2) := dk_21 5 (dk_at dksX1_looks_7 18 rfl rfl)
theorem dX1_looks_182 : decode cX1_looks 182 = .ok (.goto 5, 3) := dk_167 0 5 (dk_at dksX1_looks_7 20 rfl rfl)
theorem dX1_looks_185 : decode cX1_looks 185 = .ok (.iload 6, 2) := dk_21 6 (dk_at dksX1_looks_8 0 rfl rfl)
theorem dX1_looks_187 : decode cX1_looks 187 = .ok (.iastore, 1) := dk_79 (dk_at dksX1_looks_8 2 rfl rfl)
theorem dX1_looks_188 : decode cX1_looks 188 = .ok (.aload_n 0, 1) := dk_42 (dk_at dksX1_looks_8 3 rfl rfl)
theorem dX1_looks_189 : decode cX1_looks 189 = .ok (.getfield 56, 3) := dk_180 0 56 (dk_at dksX1_looks_8 4 rfl rfl)
theorem dX1_looks_192 : decode cX1_looks 192 = .ok (.iconst 2, 1) := dk_5 (dk_at dksX1_looks_8 7 rfl rfl)
theorem dX1_looks_193 : decode cX1_looks 193 = .ok (.iload 7, 2) := dk_21 7 (dk_at dksX1_looks_8 8 rfl rfl)
theorem dX1_looks_195 : decode cX1_looks 195 = .ok (.iconst (-1), 1) := dk_2 (dk_at dksX1_looks_8 10 rfl rfl)
theorem dX1_looks_196 : decode cX1_looks 196 = .ok (.if_icmp .ne 8, 3) := dk_160 0 8 (dk_at dksX1_looks_8 11 rfl rfl)
theorem dX1_looks_199 : decode cX1_looks 199 = .ok (.iload 5, 2) := dk_21 5 (dk_at dksX1_looks_8 14 rfl rfl)
theorem dX1_looks_201 : decode cX1_looks 201 = .ok (.goto 5, 3) := dk_167 0 5 (dk_at dksX1_looks_8 16 rfl rfl)
theorem dX1_looks_204 : decode cX1_looks 204 = .ok (.iload 7, 2) := dk_21 7 (dk_at dksX1_looks_8 19 rfl rfl)
theorem dX1_looks_206 : decode cX1_looks 206 = .ok (.iastore, 1) := dk_79 (dk_at dksX1_looks_8 21 rfl rfl)
theorem dX1_looks_207 : decode cX1_looks 207 = .ok (.aload_n 0, 1) := dk_42 (dk_at dksX1_looks_8 22 rfl rfl)
theorem dX1_looks_208 : decode cX1_looks 208 = .ok (.getfield 56, 3) := dk_180 0 56 (dk_at dksX1_looks_9 0 rfl rfl)
theorem dX1_looks_211 : decode cX1_looks 211 = .ok (.iconst 3, 1) := dk_6 (dk_at dksX1_looks_9 3 rfl rfl)
theorem dX1_looks_212 : decode cX1_looks 212 = .ok (.aload 4, 2) := dk_25 4 (dk_at dksX1_looks_9 4 rfl rfl)
theorem dX1_looks_214 : decode cX1_looks 214 = .ok (.getfield 170, 3) := dk_180 0 170 (dk_at dksX1_looks_9 6 rfl rfl)
theorem dX1_looks_217 : decode cX1_looks 217 = .ok (.iastore, 1) := dk_79 (dk_at dksX1_looks_9 9 rfl rfl)
theorem dX1_looks_218 : decode cX1_looks 218 = .ok (.aload_n 0, 1) := dk_42 (dk_at dksX1_looks_9 10 rfl rfl)
theorem dX1_looks_219 : decode cX1_looks 219 = .ok (.getfield 56, 3) := dk_180 0 56 (dk_at dksX1_looks_9 11 rfl rfl)
theorem dX1_looks_222 : decode cX1_looks 222 = .ok (.iconst 4, 1) := dk_7 (dk_at dksX1_looks_9 14 rfl rfl)
theorem dX1_looks_223 : decode cX1_looks 223 = .ok (.iload_n 3, 1) := dk_29 (dk_at dksX1_looks_9 15 rfl rfl)
theorem dX1_looks_224 : decode cX1_looks 224 = .ok (.bipush 24, 2) := dk_16 24 (dk_at dksX1_looks_9 16 rfl rfl)
theorem dX1_looks_226 : decode cX1_looks 226 = .ok (.irem, 1) := dk_112 (dk_at dksX1_looks_9 18 rfl rfl)
theorem dX1_looks_227 : decode cX1_looks 227 = .ok (.iastore, 1) := dk_79 (dk_at dksX1_looks_9 19 rfl rfl)
theorem dX1_looks_228 : decode cX1_looks 228 = .ok (.aload_n 0, 1) := dk_42 (dk_at dksX1_looks_9 20 rfl rfl)
theorem dX1_looks_229 : decode cX1_looks 229 = .ok (.getfield 56, 3) := dk_180 0 56 (dk_at dksX1_looks_9 21 rfl rfl)
theorem dX1_looks_232 : decode cX1_looks 232 = .ok (.iconst 5, 1) := dk_8 (dk_at dksX1_looks_10 0 rfl rfl)
theorem dX1_looks_233 : decode cX1_looks 233 = .ok (.iload_n 3, 1) := dk_29 (dk_at dksX1_looks_10 1 rfl rfl)
theorem dX1_looks_234 : decode cX1_looks 234 = .ok (.bipush 24, 2) := dk_16 24 (dk_at dksX1_looks_10 2 rfl rfl)
theorem dX1_looks_236 : decode cX1_looks 236 = .ok (.idiv, 1) := dk_108 (dk_at dksX1_looks_10 4 rfl rfl)
theorem dX1_looks_237 : decode cX1_looks 237 = .ok (.bipush 7, 2) := dk_16 7 (dk_at dksX1_looks_10 5 rfl rfl)
theorem dX1_looks_239 : decode cX1_looks 239 = .ok (.irem, 1) := dk_112 (dk_at dksX1_looks_10 7 rfl rfl)
theorem dX1_looks_240 : decode cX1_looks 240 = .ok (.iastore, 1) := dk_79 (dk_at dksX1_looks_10 8 rfl rfl)
theorem dX1_looks_241 : decode cX1_looks 241 = .ok (.aload_n 0, 1) := dk_42 (dk_at dksX1_looks_10 9 rfl rfl)
theorem dX1_looks_242 : decode cX1_looks 242 = .ok (.getfield 56, 3) := dk_180 0 56 (dk_at dksX1_looks_10 10 rfl rfl)
theorem dX1_looks_245 : decode cX1_looks 245 = .ok (.bipush 6, 2) := dk_16 6 (dk_at dksX1_looks_10 13 rfl rfl)
theorem dX1_looks_247 : decode cX1_looks 247 = .ok (.aload_n 1, 1) := dk_43 (dk_at dksX1_looks_10 15 rfl rfl)
theorem dX1_looks_248 : decode cX1_looks 248 = .ok (.iload_n 2, 1) := dk_28 (dk_at dksX1_looks_10 16 rfl rfl)
theorem dX1_looks_249 : decode cX1_looks 249 = .ok (.iload_n 3, 1) := dk_29 (dk_at dksX1_looks_10 17 rfl rfl)
theorem dX1_looks_250 : decode cX1_looks 250 = .ok (.invokeinterface 246 3, 5) := by decide +kernel
theorem dX1_looks_255 : decode cX1_looks 255 = .ok (.iastore, 1) := dk_79 (dk_at dksX1_looks_10 23 rfl rfl)
theorem dX1_looks_256 : decode cX1_looks 256 = .ok (.aload_n 0, 1) := dk_42 (dk_at dksX1_looks_11 0 rfl rfl)
theorem dX1_looks_257 : decode cX1_looks 257 = .ok (.getfield 56, 3) := dk_180 0 56 (dk_at dksX1_looks_11 1 rfl rfl)
theorem dX1_looks_260 : decode cX1_looks 260 = .ok (.bipush 7, 2) := dk_16 7 (dk_at dksX1_looks_11 4 rfl rfl)
theorem dX1_looks_262 : decode cX1_looks 262 = .ok (.iload 8, 2) := dk_21 8 (dk_at dksX1_looks_11 6 rfl rfl)
theorem dX1_looks_264 : decode cX1_looks 264 = .ok (.iastore, 1) := dk_79 (dk_at dksX1_looks_11 8 rfl rfl)
theorem dX1_looks_265 : decode cX1_looks 265 = .ok (.aload_n 0, 1) := dk_42 (dk_at dksX1_looks_11 9 rfl rfl)
theorem dX1_looks_266 : decode cX1_looks 266 = .ok (.getfield 56, 3) := dk_180 0 56 (dk_at dksX1_looks_11 10 rfl rfl)
theorem dX1_looks_269 : decode cX1_looks 269 = .ok (.bipush 8, 2) := dk_16 8 (dk_at dksX1_looks_11 13 rfl rfl)
theorem dX1_looks_271 : decode cX1_looks 271 = .ok (.iload 9, 2) := dk_21 9 (dk_at dksX1_looks_11 15 rfl rfl)
theorem dX1_looks_273 : decode cX1_looks 273 = .ok (.iastore, 1) := dk_79 (dk_at dksX1_looks_11 17 rfl rfl)
theorem dX1_looks_274 : decode cX1_looks 274 = .ok (.return_, 1) := dk_177 (dk_at dksX1_looks_11 18 rfl rfl)
abbrev cX1_has : ByteArray := prog_1_method_2_code
def yX1_has : MethodName := ⟨RX1, "has", "(II)Z"⟩
def dkwX1_has_0 : List UInt8 := [26, 27, 122, 4, 126, 4, 160, 0, 7, 4, 167, 0, 4, 3, 172]
abbrev dktX1_has_0 : List UInt8 := dkwX1_has_0 ++ []
theorem dksX1_has_0 : cX1_has.data.toList.drop 0 = dktX1_has_0 := by decide +kernel
theorem dX1_has_0 : decode cX1_has 0 = .ok (.iload_n 0, 1) := dk_26 (dk_at dksX1_has_0 0 rfl rfl)
theorem dX1_has_1 : decode cX1_has 1 = .ok (.iload_n 1, 1) := dk_27 (dk_at dksX1_has_0 1 rfl rfl)
theorem dX1_has_2 : decode cX1_has 2 = .ok (.ishr, 1) := dk_122 (dk_at dksX1_has_0 2 rfl rfl)
theorem dX1_has_3 : decode cX1_has 3 = .ok (.iconst 1, 1) := dk_4 (dk_at dksX1_has_0 3 rfl rfl)
theorem dX1_has_4 : decode cX1_has 4 = .ok (.iand, 1) := dk_126 (dk_at dksX1_has_0 4 rfl rfl)
theorem dX1_has_5 : decode cX1_has 5 = .ok (.iconst 1, 1) := dk_4 (dk_at dksX1_has_0 5 rfl rfl)
theorem dX1_has_6 : decode cX1_has 6 = .ok (.if_icmp .ne 7, 3) := dk_160 0 7 (dk_at dksX1_has_0 6 rfl rfl)
theorem dX1_has_9 : decode cX1_has 9 = .ok (.iconst 1, 1) := dk_4 (dk_at dksX1_has_0 9 rfl rfl)
theorem dX1_has_10 : decode cX1_has 10 = .ok (.goto 4, 3) := dk_167 0 4 (dk_at dksX1_has_0 10 rfl rfl)
theorem dX1_has_13 : decode cX1_has 13 = .ok (.iconst 0, 1) := dk_3 (dk_at dksX1_has_0 13 rfl rfl)
theorem dX1_has_14 : decode cX1_has 14 = .ok (.ireturn, 1) := dk_172 (dk_at dksX1_has_0 14 rfl rfl)
abbrev cX1_goesTo : ByteArray := prog_1_method_21_code
def yX1_goesTo : MethodName := ⟨RX1, "goesTo", "(LPumpCrossing$Driver;[I)I"⟩
def dkwX1_goesTo_4 : List UInt8 := [54, 4, 132, 5, 1, 167, 255, 176, 29, 172]
abbrev dktX1_goesTo_4 : List UInt8 := dkwX1_goesTo_4 ++ []
def dkwX1_goesTo_3 : List UInt8 := [180, 1, 36, 96, 21, 4, 161, 0, 6, 167, 0, 17, 21, 5, 62, 44, 21, 5, 46, 43, 180, 1, 36, 96]
abbrev dktX1_goesTo_3 : List UInt8 := dkwX1_goesTo_3 ++ dktX1_goesTo_4
def dkwX1_goesTo_2 : List UInt8 := [180, 1, 26, 154, 0, 15, 43, 180, 1, 30, 21, 5, 184, 1, 33, 153, 0, 34, 44, 21, 5, 46, 43]
abbrev dktX1_goesTo_2 : List UInt8 := dkwX1_goesTo_2 ++ dktX1_goesTo_3
def dkwX1_goesTo_1 : List UInt8 := [182, 0, 102, 162, 0, 74, 21, 5, 43, 180, 1, 23, 159, 0, 59, 42, 180, 0, 22, 180, 0, 229]
abbrev dktX1_goesTo_1 : List UInt8 := dkwX1_goesTo_1 ++ dktX1_goesTo_2
def dkwX1_goesTo_0 : List UInt8 := [43, 180, 1, 23, 62, 44, 43, 180, 1, 23, 46, 54, 4, 3, 54, 5, 21, 5, 42, 180, 0, 22]
abbrev dktX1_goesTo_0 : List UInt8 := dkwX1_goesTo_0 ++ dktX1_goesTo_1
theorem dksX1_goesTo_0 : cX1_goesTo.data.toList.drop 0 = dktX1_goesTo_0 := by decide +kernel
theorem dksX1_goesTo_1 : cX1_goesTo.data.toList.drop 22 = dktX1_goesTo_1 := dk_seg dksX1_goesTo_0 22 rfl rfl
theorem dksX1_goesTo_2 : cX1_goesTo.data.toList.drop 44 = dktX1_goesTo_2 := dk_seg dksX1_goesTo_1 22 rfl rfl
theorem dksX1_goesTo_3 : cX1_goesTo.data.toList.drop 67 = dktX1_goesTo_3 := dk_seg dksX1_goesTo_2 23 rfl rfl
theorem dksX1_goesTo_4 : cX1_goesTo.data.toList.drop 91 = dktX1_goesTo_4 := dk_seg dksX1_goesTo_3 24 rfl rfl
theorem dX1_goesTo_0 : decode cX1_goesTo 0 = .ok (.aload_n 1, 1) := dk_43 (dk_at dksX1_goesTo_0 0 rfl rfl)
theorem dX1_goesTo_1 : decode cX1_goesTo 1 = .ok (.getfield 279, 3) := dk_180 1 23 (dk_at dksX1_goesTo_0 1 rfl rfl)
theorem dX1_goesTo_4 : decode cX1_goesTo 4 = .ok (.istore_n 3, 1) := dk_62 (dk_at dksX1_goesTo_0 4 rfl rfl)
theorem dX1_goesTo_5 : decode cX1_goesTo 5 = .ok (.aload_n 2, 1) := dk_44 (dk_at dksX1_goesTo_0 5 rfl rfl)
theorem dX1_goesTo_6 : decode cX1_goesTo 6 = .ok (.aload_n 1, 1) := dk_43 (dk_at dksX1_goesTo_0 6 rfl rfl)
theorem dX1_goesTo_7 : decode cX1_goesTo 7 = .ok (.getfield 279, 3) := dk_180 1 23 (dk_at dksX1_goesTo_0 7 rfl rfl)
theorem dX1_goesTo_10 : decode cX1_goesTo 10 = .ok (.iaload, 1) := dk_46 (dk_at dksX1_goesTo_0 10 rfl rfl)
theorem dX1_goesTo_11 : decode cX1_goesTo 11 = .ok (.istore 4, 2) := dk_54 4 (dk_at dksX1_goesTo_0 11 rfl rfl)
theorem dX1_goesTo_13 : decode cX1_goesTo 13 = .ok (.iconst 0, 1) := dk_3 (dk_at dksX1_goesTo_0 13 rfl rfl)
theorem dX1_goesTo_14 : decode cX1_goesTo 14 = .ok (.istore 5, 2) := dk_54 5 (dk_at dksX1_goesTo_0 14 rfl rfl)
theorem dX1_goesTo_16 : decode cX1_goesTo 16 = .ok (.iload 5, 2) := dk_21 5 (dk_at dksX1_goesTo_0 16 rfl rfl)
theorem dX1_goesTo_18 : decode cX1_goesTo 18 = .ok (.aload_n 0, 1) := dk_42 (dk_at dksX1_goesTo_0 18 rfl rfl)
theorem dX1_goesTo_19 : decode cX1_goesTo 19 = .ok (.getfield 22, 3) := dk_180 0 22 (dk_at dksX1_goesTo_0 19 rfl rfl)
theorem dX1_goesTo_22 : decode cX1_goesTo 22 = .ok (.invokevirtual 102, 3) := dk_182 0 102 (dk_at dksX1_goesTo_1 0 rfl rfl)
theorem dX1_goesTo_25 : decode cX1_goesTo 25 = .ok (.if_icmp .ge 74, 3) := dk_162 0 74 (dk_at dksX1_goesTo_1 3 rfl rfl)
theorem dX1_goesTo_28 : decode cX1_goesTo 28 = .ok (.iload 5, 2) := dk_21 5 (dk_at dksX1_goesTo_1 6 rfl rfl)
theorem dX1_goesTo_30 : decode cX1_goesTo 30 = .ok (.aload_n 1, 1) := dk_43 (dk_at dksX1_goesTo_1 8 rfl rfl)
theorem dX1_goesTo_31 : decode cX1_goesTo 31 = .ok (.getfield 279, 3) := dk_180 1 23 (dk_at dksX1_goesTo_1 9 rfl rfl)
theorem dX1_goesTo_34 : decode cX1_goesTo 34 = .ok (.if_icmp .eq 59, 3) := dk_159 0 59 (dk_at dksX1_goesTo_1 12 rfl rfl)
theorem dX1_goesTo_37 : decode cX1_goesTo 37 = .ok (.aload_n 0, 1) := dk_42 (dk_at dksX1_goesTo_1 15 rfl rfl)
theorem dX1_goesTo_38 : decode cX1_goesTo 38 = .ok (.getfield 22, 3) := dk_180 0 22 (dk_at dksX1_goesTo_1 16 rfl rfl)
theorem dX1_goesTo_41 : decode cX1_goesTo 41 = .ok (.getfield 229, 3) := dk_180 0 229 (dk_at dksX1_goesTo_1 19 rfl rfl)
theorem dX1_goesTo_44 : decode cX1_goesTo 44 = .ok (.getfield 282, 3) := dk_180 1 26 (dk_at dksX1_goesTo_2 0 rfl rfl)
theorem dX1_goesTo_47 : decode cX1_goesTo 47 = .ok (.ifCond .ne 15, 3) := dk_154 0 15 (dk_at dksX1_goesTo_2 3 rfl rfl)
theorem dX1_goesTo_50 : decode cX1_goesTo 50 = .ok (.aload_n 1, 1) := dk_43 (dk_at dksX1_goesTo_2 6 rfl rfl)
theorem dX1_goesTo_51 : decode cX1_goesTo 51 = .ok (.getfield 286, 3) := dk_180 1 30 (dk_at dksX1_goesTo_2 7 rfl rfl)
theorem dX1_goesTo_54 : decode cX1_goesTo 54 = .ok (.iload 5, 2) := dk_21 5 (dk_at dksX1_goesTo_2 10 rfl rfl)
theorem dX1_goesTo_56 : decode cX1_goesTo 56 = .ok (.invokestatic 289, 3) := dk_184 1 33 (dk_at dksX1_goesTo_2 12 rfl rfl)
theorem dX1_goesTo_59 : decode cX1_goesTo 59 = .ok (.ifCond .eq 34, 3) := dk_153 0 34 (dk_at dksX1_goesTo_2 15 rfl rfl)
theorem dX1_goesTo_62 : decode cX1_goesTo 62 = .ok (.aload_n 2, 1) := dk_44 (dk_at dksX1_goesTo_2 18 rfl rfl)
theorem dX1_goesTo_63 : decode cX1_goesTo 63 = .ok (.iload 5, 2) := dk_21 5 (dk_at dksX1_goesTo_2 19 rfl rfl)
theorem dX1_goesTo_65 : decode cX1_goesTo 65 = .ok (.iaload, 1) := dk_46 (dk_at dksX1_goesTo_2 21 rfl rfl)
theorem dX1_goesTo_66 : decode cX1_goesTo 66 = .ok (.aload_n 1, 1) := dk_43 (dk_at dksX1_goesTo_2 22 rfl rfl)
theorem dX1_goesTo_67 : decode cX1_goesTo 67 = .ok (.getfield 292, 3) := dk_180 1 36 (dk_at dksX1_goesTo_3 0 rfl rfl)
theorem dX1_goesTo_70 : decode cX1_goesTo 70 = .ok (.iadd, 1) := dk_96 (dk_at dksX1_goesTo_3 3 rfl rfl)
theorem dX1_goesTo_71 : decode cX1_goesTo 71 = .ok (.iload 4, 2) := dk_21 4 (dk_at dksX1_goesTo_3 4 rfl rfl)
theorem dX1_goesTo_73 : decode cX1_goesTo 73 = .ok (.if_icmp .lt 6, 3) := dk_161 0 6 (dk_at dksX1_goesTo_3 6 rfl rfl)
theorem dX1_goesTo_76 : decode cX1_goesTo 76 = .ok (.goto 17, 3) := dk_167 0 17 (dk_at dksX1_goesTo_3 9 rfl rfl)
theorem dX1_goesTo_79 : decode cX1_goesTo 79 = .ok (.iload 5, 2) := dk_21 5 (dk_at dksX1_goesTo_3 12 rfl rfl)
theorem dX1_goesTo_81 : decode cX1_goesTo 81 = .ok (.istore_n 3, 1) := dk_62 (dk_at dksX1_goesTo_3 14 rfl rfl)
theorem dX1_goesTo_82 : decode cX1_goesTo 82 = .ok (.aload_n 2, 1) := dk_44 (dk_at dksX1_goesTo_3 15 rfl rfl)
theorem dX1_goesTo_83 : decode cX1_goesTo 83 = .ok (.iload 5, 2) := dk_21 5 (dk_at dksX1_goesTo_3 16 rfl rfl)
theorem dX1_goesTo_85 : decode cX1_goesTo 85 = .ok (.iaload, 1) := dk_46 (dk_at dksX1_goesTo_3 18 rfl rfl)
theorem dX1_goesTo_86 : decode cX1_goesTo 86 = .ok (.aload_n 1, 1) := dk_43 (dk_at dksX1_goesTo_3 19 rfl rfl)
theorem dX1_goesTo_87 : decode cX1_goesTo 87 = .ok (.getfield 292, 3) := dk_180 1 36 (dk_at dksX1_goesTo_3 20 rfl rfl)
theorem dX1_goesTo_90 : decode cX1_goesTo 90 = .ok (.iadd, 1) := dk_96 (dk_at dksX1_goesTo_3 23 rfl rfl)
theorem dX1_goesTo_91 : decode cX1_goesTo 91 = .ok (.istore 4, 2) := dk_54 4 (dk_at dksX1_goesTo_4 0 rfl rfl)
theorem dX1_goesTo_93 : decode cX1_goesTo 93 = .ok (.iinc 5 1, 3) := dk_132 5 1 (dk_at dksX1_goesTo_4 2 rfl rfl)
theorem dX1_goesTo_96 : decode cX1_goesTo 96 = .ok (.goto (-80), 3) := dk_167 255 176 (dk_at dksX1_goesTo_4 5 rfl rfl)
theorem dX1_goesTo_99 : decode cX1_goesTo 99 = .ok (.iload_n 3, 1) := dk_29 (dk_at dksX1_goesTo_4 8 rfl rfl)
theorem dX1_goesTo_100 : decode cX1_goesTo 100 = .ok (.ireturn, 1) := dk_172 (dk_at dksX1_goesTo_4 9 rfl rfl)
abbrev cX1_price : ByteArray := prog_1_method_24_code
def yX1_price : MethodName := ⟨RX1, "price", "(I)I"⟩
def dkwX1_price_0 : List UInt8 := [42, 27, 182, 0, 153, 180, 1, 43, 172]
abbrev dktX1_price_0 : List UInt8 := dkwX1_price_0 ++ []
theorem dksX1_price_0 : cX1_price.data.toList.drop 0 = dktX1_price_0 := by decide +kernel
theorem dX1_price_0 : decode cX1_price 0 = .ok (.aload_n 0, 1) := dk_42 (dk_at dksX1_price_0 0 rfl rfl)
theorem dX1_price_1 : decode cX1_price 1 = .ok (.iload_n 1, 1) := dk_27 (dk_at dksX1_price_0 1 rfl rfl)
theorem dX1_price_2 : decode cX1_price 2 = .ok (.invokevirtual 153, 3) := dk_182 0 153 (dk_at dksX1_price_0 2 rfl rfl)
theorem dX1_price_5 : decode cX1_price 5 = .ok (.getfield 299, 3) := dk_180 1 43 (dk_at dksX1_price_0 5 rfl rfl)
theorem dX1_price_8 : decode cX1_price 8 = .ok (.ireturn, 1) := dk_172 (dk_at dksX1_price_0 8 rfl rfl)
abbrev cX1_board : ByteArray := prog_1_method_25_code
def yX1_board : MethodName := ⟨RX1, "board", "(II)I"⟩
def dkwX1_board_1 : List UInt8 := [182, 1, 76, 172]
abbrev dktX1_board_1 : List UInt8 := dkwX1_board_1 ++ []
def dkwX1_board_0 : List UInt8 := [42, 27, 182, 0, 153, 87, 42, 180, 0, 22, 28, 182, 1, 72, 184, 0, 110, 42, 180, 0, 22, 27, 28]
abbrev dktX1_board_0 : List UInt8 := dkwX1_board_0 ++ dktX1_board_1
theorem dksX1_board_0 : cX1_board.data.toList.drop 0 = dktX1_board_0 := by decide +kernel
theorem dksX1_board_1 : cX1_board.data.toList.drop 23 = dktX1_board_1 := dk_seg dksX1_board_0 23 rfl rfl
theorem dX1_board_0 : decode cX1_board 0 = .ok (.aload_n 0, 1) := dk_42 (dk_at dksX1_board_0 0 rfl rfl)
theorem dX1_board_1 : decode cX1_board 1 = .ok (.iload_n 1, 1) := dk_27 (dk_at dksX1_board_0 1 rfl rfl)
theorem dX1_board_2 : decode cX1_board 2 = .ok (.invokevirtual 153, 3) := dk_182 0 153 (dk_at dksX1_board_0 2 rfl rfl)
theorem dX1_board_5 : decode cX1_board 5 = .ok (.pop, 1) := dk_87 (dk_at dksX1_board_0 5 rfl rfl)
theorem dX1_board_6 : decode cX1_board 6 = .ok (.aload_n 0, 1) := dk_42 (dk_at dksX1_board_0 6 rfl rfl)
theorem dX1_board_7 : decode cX1_board 7 = .ok (.getfield 22, 3) := dk_180 0 22 (dk_at dksX1_board_0 7 rfl rfl)
theorem dX1_board_10 : decode cX1_board 10 = .ok (.iload_n 2, 1) := dk_28 (dk_at dksX1_board_0 10 rfl rfl)
theorem dX1_board_11 : decode cX1_board 11 = .ok (.invokevirtual 328, 3) := dk_182 1 72 (dk_at dksX1_board_0 11 rfl rfl)
theorem dX1_board_14 : decode cX1_board 14 = .ok (.invokestatic 110, 3) := dk_184 0 110 (dk_at dksX1_board_0 14 rfl rfl)
theorem dX1_board_17 : decode cX1_board 17 = .ok (.aload_n 0, 1) := dk_42 (dk_at dksX1_board_0 17 rfl rfl)
theorem dX1_board_18 : decode cX1_board 18 = .ok (.getfield 22, 3) := dk_180 0 22 (dk_at dksX1_board_0 18 rfl rfl)
theorem dX1_board_21 : decode cX1_board 21 = .ok (.iload_n 1, 1) := dk_27 (dk_at dksX1_board_0 21 rfl rfl)
theorem dX1_board_22 : decode cX1_board 22 = .ok (.iload_n 2, 1) := dk_28 (dk_at dksX1_board_0 22 rfl rfl)
theorem dX1_board_23 : decode cX1_board 23 = .ok (.invokevirtual 332, 3) := dk_182 1 76 (dk_at dksX1_board_1 0 rfl rfl)
theorem dX1_board_26 : decode cX1_board 26 = .ok (.ireturn, 1) := dk_172 (dk_at dksX1_board_1 3 rfl rfl)
abbrev cX1_would : ByteArray := prog_1_method_26_code
def yX1_would : MethodName := ⟨RX1, "would", "(I)I"⟩
def dkwX1_would_0 : List UInt8 := [42, 27, 182, 0, 153, 87, 42, 42, 180, 0, 45, 27, 42, 180, 0, 22, 180, 0, 126, 182, 1, 39, 172]
abbrev dktX1_would_0 : List UInt8 := dkwX1_would_0 ++ []
theorem dksX1_would_0 : cX1_would.data.toList.drop 0 = dktX1_would_0 := by decide +kernel
theorem dX1_would_0 : decode cX1_would 0 = .ok (.aload_n 0, 1) := dk_42 (dk_at dksX1_would_0 0 rfl rfl)
theorem dX1_would_1 : decode cX1_would 1 = .ok (.iload_n 1, 1) := dk_27 (dk_at dksX1_would_0 1 rfl rfl)
theorem dX1_would_2 : decode cX1_would 2 = .ok (.invokevirtual 153, 3) := dk_182 0 153 (dk_at dksX1_would_0 2 rfl rfl)
theorem dX1_would_5 : decode cX1_would 5 = .ok (.pop, 1) := dk_87 (dk_at dksX1_would_0 5 rfl rfl)
theorem dX1_would_6 : decode cX1_would 6 = .ok (.aload_n 0, 1) := dk_42 (dk_at dksX1_would_0 6 rfl rfl)
theorem dX1_would_7 : decode cX1_would 7 = .ok (.aload_n 0, 1) := dk_42 (dk_at dksX1_would_0 7 rfl rfl)
theorem dX1_would_8 : decode cX1_would 8 = .ok (.getfield 45, 3) := dk_180 0 45 (dk_at dksX1_would_0 8 rfl rfl)
theorem dX1_would_11 : decode cX1_would 11 = .ok (.iload_n 1, 1) := dk_27 (dk_at dksX1_would_0 11 rfl rfl)
theorem dX1_would_12 : decode cX1_would 12 = .ok (.aload_n 0, 1) := dk_42 (dk_at dksX1_would_0 12 rfl rfl)
theorem dX1_would_13 : decode cX1_would 13 = .ok (.getfield 22, 3) := dk_180 0 22 (dk_at dksX1_would_0 13 rfl rfl)
theorem dX1_would_16 : decode cX1_would 16 = .ok (.getfield 126, 3) := dk_180 0 126 (dk_at dksX1_would_0 16 rfl rfl)
theorem dX1_would_19 : decode cX1_would 19 = .ok (.invokevirtual 295, 3) := dk_182 1 39 (dk_at dksX1_would_0 19 rfl rfl)
theorem dX1_would_22 : decode cX1_would 22 = .ok (.ireturn, 1) := dk_172 (dk_at dksX1_would_0 22 rfl rfl)
abbrev cX1_of : ByteArray := prog_1_method_27_code
def yX1_of : MethodName := ⟨RX1, "of", "(II)J"⟩
def dkwX1_of_2 : List UInt8 := [180, 0, 22, 180, 0, 126, 182, 1, 79, 133, 173]
abbrev dktX1_of_2 : List UInt8 := dkwX1_of_2 ++ []
def dkwX1_of_1 : List UInt8 := [180, 1, 56, 167, 0, 31, 28, 4, 160, 0, 10, 45, 180, 1, 62, 167, 0, 19, 42, 180, 0, 45, 27, 42]
abbrev dktX1_of_1 : List UInt8 := dkwX1_of_1 ++ dktX1_of_2
def dkwX1_of_0 : List UInt8 := [42, 27, 182, 0, 153, 78, 28, 133, 9, 20, 1, 77, 184, 0, 106, 184, 0, 143, 28, 154, 0, 10, 45]
abbrev dktX1_of_0 : List UInt8 := dkwX1_of_0 ++ dktX1_of_1
theorem dksX1_of_0 : cX1_of.data.toList.drop 0 = dktX1_of_0 := by decide +kernel
theorem dksX1_of_1 : cX1_of.data.toList.drop 23 = dktX1_of_1 := dk_seg dksX1_of_0 23 rfl rfl
theorem dksX1_of_2 : cX1_of.data.toList.drop 47 = dktX1_of_2 := dk_seg dksX1_of_1 24 rfl rfl
theorem dX1_of_0 : decode cX1_of 0 = .ok (.aload_n 0, 1) := dk_42 (dk_at dksX1_of_0 0 rfl rfl)
theorem dX1_of_1 : decode cX1_of 1 = .ok (.iload_n 1, 1) := dk_27 (dk_at dksX1_of_0 1 rfl rfl)
theorem dX1_of_2 : decode cX1_of 2 = .ok (.invokevirtual 153, 3) := dk_182 0 153 (dk_at dksX1_of_0 2 rfl rfl)
theorem dX1_of_5 : decode cX1_of 5 = .ok (.astore_n 3, 1) := dk_78 (dk_at dksX1_of_0 5 rfl rfl)
theorem dX1_of_6 : decode cX1_of 6 = .ok (.iload_n 2, 1) := dk_28 (dk_at dksX1_of_0 6 rfl rfl)
theorem dX1_of_7 : decode cX1_of 7 = .ok (.i2l, 1) := dk_133 (dk_at dksX1_of_0 7 rfl rfl)
theorem dX1_of_8 : decode cX1_of 8 = .ok (.lconst 0, 1) := dk_9 (dk_at dksX1_of_0 8 rfl rfl)
theorem dX1_of_9 : decode cX1_of 9 = .ok (.ldc2_w 333, 3) := dk_20 1 77 (dk_at dksX1_of_0 9 rfl rfl)
theorem dX1_of_12 : decode cX1_of 12 = .ok (.invokestatic 106, 3) := dk_184 0 106 (dk_at dksX1_of_0 12 rfl rfl)
theorem dX1_of_15 : decode cX1_of 15 = .ok (.invokestatic 143, 3) := dk_184 0 143 (dk_at dksX1_of_0 15 rfl rfl)
theorem dX1_of_18 : decode cX1_of 18 = .ok (.iload_n 2, 1) := dk_28 (dk_at dksX1_of_0 18 rfl rfl)
theorem dX1_of_19 : decode cX1_of 19 = .ok (.ifCond .ne 10, 3) := dk_154 0 10 (dk_at dksX1_of_0 19 rfl rfl)
theorem dX1_of_22 : decode cX1_of 22 = .ok (.aload_n 3, 1) := dk_45 (dk_at dksX1_of_0 22 rfl rfl)
theorem dX1_of_23 : decode cX1_of 23 = .ok (.getfield 312, 3) := dk_180 1 56 (dk_at dksX1_of_1 0 rfl rfl)
theorem dX1_of_26 : decode cX1_of 26 = .ok (.goto 31, 3) := dk_167 0 31 (dk_at dksX1_of_1 3 rfl rfl)
theorem dX1_of_29 : decode cX1_of 29 = .ok (.iload_n 2, 1) := dk_28 (dk_at dksX1_of_1 6 rfl rfl)
theorem dX1_of_30 : decode cX1_of 30 = .ok (.iconst 1, 1) := dk_4 (dk_at dksX1_of_1 7 rfl rfl)
theorem dX1_of_31 : decode cX1_of 31 = .ok (.if_icmp .ne 10, 3) := dk_160 0 10 (dk_at dksX1_of_1 8 rfl rfl)
theorem dX1_of_34 : decode cX1_of 34 = .ok (.aload_n 3, 1) := dk_45 (dk_at dksX1_of_1 11 rfl rfl)
theorem dX1_of_35 : decode cX1_of 35 = .ok (.getfield 318, 3) := dk_180 1 62 (dk_at dksX1_of_1 12 rfl rfl)
theorem dX1_of_38 : decode cX1_of 38 = .ok (.goto 19, 3) := dk_167 0 19 (dk_at dksX1_of_1 15 rfl rfl)
theorem dX1_of_41 : decode cX1_of 41 = .ok (.aload_n 0, 1) := dk_42 (dk_at dksX1_of_1 18 rfl rfl)
theorem dX1_of_42 : decode cX1_of 42 = .ok (.getfield 45, 3) := dk_180 0 45 (dk_at dksX1_of_1 19 rfl rfl)
theorem dX1_of_45 : decode cX1_of 45 = .ok (.iload_n 1, 1) := dk_27 (dk_at dksX1_of_1 22 rfl rfl)
theorem dX1_of_46 : decode cX1_of 46 = .ok (.aload_n 0, 1) := dk_42 (dk_at dksX1_of_1 23 rfl rfl)
theorem dX1_of_47 : decode cX1_of 47 = .ok (.getfield 22, 3) := dk_180 0 22 (dk_at dksX1_of_2 0 rfl rfl)
theorem dX1_of_50 : decode cX1_of 50 = .ok (.getfield 126, 3) := dk_180 0 126 (dk_at dksX1_of_2 3 rfl rfl)
theorem dX1_of_53 : decode cX1_of 53 = .ok (.invokevirtual 335, 3) := dk_182 1 79 (dk_at dksX1_of_2 6 rfl rfl)
theorem dX1_of_56 : decode cX1_of 56 = .ok (.i2l, 1) := dk_133 (dk_at dksX1_of_2 9 rfl rfl)
theorem dX1_of_57 : decode cX1_of 57 = .ok (.lreturn, 1) := dk_173 (dk_at dksX1_of_2 10 rfl rfl)
abbrev cX1_fills : ByteArray := prog_1_method_29_code
def yX1_fills : MethodName := ⟨RX1, "fills", "(I)I"⟩
def dkwX1_fills_2 : List UInt8 := [182, 1, 52, 172]
abbrev dktX1_fills_2 : List UInt8 := dkwX1_fills_2 ++ []
def dkwX1_fills_1 : List UInt8 := [182, 1, 80, 42, 42, 180, 0, 22, 180, 0, 159, 27, 182, 0, 118, 192, 0, 165, 42, 180, 0, 63]
abbrev dktX1_fills_1 : List UInt8 := dkwX1_fills_1 ++ dktX1_fills_2
def dkwX1_fills_0 : List UInt8 := [27, 133, 9, 42, 180, 0, 22, 180, 0, 159, 182, 0, 162, 4, 100, 133, 184, 0, 106, 184, 0, 110, 42]
abbrev dktX1_fills_0 : List UInt8 := dkwX1_fills_0 ++ dktX1_fills_1
theorem dksX1_fills_0 : cX1_fills.data.toList.drop 0 = dktX1_fills_0 := by decide +kernel
theorem dksX1_fills_1 : cX1_fills.data.toList.drop 23 = dktX1_fills_1 := dk_seg dksX1_fills_0 23 rfl rfl
theorem dksX1_fills_2 : cX1_fills.data.toList.drop 45 = dktX1_fills_2 := dk_seg dksX1_fills_1 22 rfl rfl
theorem dX1_fills_0 : decode cX1_fills 0 = .ok (.iload_n 1, 1) := dk_27 (dk_at dksX1_fills_0 0 rfl rfl)
theorem dX1_fills_1 : decode cX1_fills 1 = .ok (.i2l, 1) := dk_133 (dk_at dksX1_fills_0 1 rfl rfl)
theorem dX1_fills_2 : decode cX1_fills 2 = .ok (.lconst 0, 1) := dk_9 (dk_at dksX1_fills_0 2 rfl rfl)
theorem dX1_fills_3 : decode cX1_fills 3 = .ok (.aload_n 0, 1) := dk_42 (dk_at dksX1_fills_0 3 rfl rfl)
theorem dX1_fills_4 : decode cX1_fills 4 = .ok (.getfield 22, 3) := dk_180 0 22 (dk_at dksX1_fills_0 4 rfl rfl)
theorem dX1_fills_7 : decode cX1_fills 7 = .ok (.getfield 159, 3) := dk_180 0 159 (dk_at dksX1_fills_0 7 rfl rfl)
theorem dX1_fills_10 : decode cX1_fills 10 = .ok (.invokevirtual 162, 3) := dk_182 0 162 (dk_at dksX1_fills_0 10 rfl rfl)
theorem dX1_fills_13 : decode cX1_fills 13 = .ok (.iconst 1, 1) := dk_4 (dk_at dksX1_fills_0 13 rfl rfl)
theorem dX1_fills_14 : decode cX1_fills 14 = .ok (.isub, 1) := dk_100 (dk_at dksX1_fills_0 14 rfl rfl)
theorem dX1_fills_15 : decode cX1_fills 15 = .ok (.i2l, 1) := dk_133 (dk_at dksX1_fills_0 15 rfl rfl)
theorem dX1_fills_16 : decode cX1_fills 16 = .ok (.invokestatic 106, 3) := dk_184 0 106 (dk_at dksX1_fills_0 16 rfl rfl)
theorem dX1_fills_19 : decode cX1_fills 19 = .ok (.invokestatic 110, 3) := dk_184 0 110 (dk_at dksX1_fills_0 19 rfl rfl)
theorem dX1_fills_22 : decode cX1_fills 22 = .ok (.aload_n 0, 1) := dk_42 (dk_at dksX1_fills_0 22 rfl rfl)
theorem dX1_fills_23 : decode cX1_fills 23 = .ok (.invokevirtual 336, 3) := dk_182 1 80 (dk_at dksX1_fills_1 0 rfl rfl)
theorem dX1_fills_26 : decode cX1_fills 26 = .ok (.aload_n 0, 1) := dk_42 (dk_at dksX1_fills_1 3 rfl rfl)
theorem dX1_fills_27 : decode cX1_fills 27 = .ok (.aload_n 0, 1) := dk_42 (dk_at dksX1_fills_1 4 rfl rfl)
theorem dX1_fills_28 : decode cX1_fills 28 = .ok (.getfield 22, 3) := dk_180 0 22 (dk_at dksX1_fills_1 5 rfl rfl)
theorem dX1_fills_31 : decode cX1_fills 31 = .ok (.getfield 159, 3) := dk_180 0 159 (dk_at dksX1_fills_1 8 rfl rfl)
theorem dX1_fills_34 : decode cX1_fills 34 = .ok (.iload_n 1, 1) := dk_27 (dk_at dksX1_fills_1 11 rfl rfl)
theorem dX1_fills_35 : decode cX1_fills 35 = .ok (.invokevirtual 118, 3) := dk_182 0 118 (dk_at dksX1_fills_1 12 rfl rfl)
theorem dX1_fills_38 : decode cX1_fills 38 = .ok (.checkcast 165, 3) := dk_192 0 165 (dk_at dksX1_fills_1 15 rfl rfl)
theorem dX1_fills_41 : decode cX1_fills 41 = .ok (.aload_n 0, 1) := dk_42 (dk_at dksX1_fills_1 18 rfl rfl)
theorem dX1_fills_42 : decode cX1_fills 42 = .ok (.getfield 63, 3) := dk_180 0 63 (dk_at dksX1_fills_1 19 rfl rfl)
theorem dX1_fills_45 : decode cX1_fills 45 = .ok (.invokevirtual 308, 3) := dk_182 1 52 (dk_at dksX1_fills_2 0 rfl rfl)
theorem dX1_fills_48 : decode cX1_fills 48 = .ok (.ireturn, 1) := dk_172 (dk_at dksX1_fills_2 3 rfl rfl)
abbrev cX1_asNow : ByteArray := prog_1_method_28_code
def yX1_asNow : MethodName := ⟨RX1, "asNow", "()V"⟩
def dkwX1_asNow_1 : List UInt8 := [180, 0, 114, 27, 182, 0, 118, 192, 0, 124, 180, 1, 43, 79, 132, 1, 1, 167, 255, 219, 177]
abbrev dktX1_asNow_1 : List UInt8 := dkwX1_asNow_1 ++ []
def dkwX1_asNow_0 : List UInt8 := [3, 60, 27, 42, 180, 0, 22, 182, 0, 102, 162, 0, 32, 42, 180, 0, 63, 27, 42, 180, 0, 22]
abbrev dktX1_asNow_0 : List UInt8 := dkwX1_asNow_0 ++ dktX1_asNow_1
theorem dksX1_asNow_0 : cX1_asNow.data.toList.drop 0 = dktX1_asNow_0 := by decide +kernel
theorem dksX1_asNow_1 : cX1_asNow.data.toList.drop 22 = dktX1_asNow_1 := dk_seg dksX1_asNow_0 22 rfl rfl
theorem dX1_asNow_0 : decode cX1_asNow 0 = .ok (.iconst 0, 1) := dk_3 (dk_at dksX1_asNow_0 0 rfl rfl)
theorem dX1_asNow_1 : decode cX1_asNow 1 = .ok (.istore_n 1, 1) := dk_60 (dk_at dksX1_asNow_0 1 rfl rfl)
theorem dX1_asNow_2 : decode cX1_asNow 2 = .ok (.iload_n 1, 1) := dk_27 (dk_at dksX1_asNow_0 2 rfl rfl)
theorem dX1_asNow_3 : decode cX1_asNow 3 = .ok (.aload_n 0, 1) := dk_42 (dk_at dksX1_asNow_0 3 rfl rfl)
theorem dX1_asNow_4 : decode cX1_asNow 4 = .ok (.getfield 22, 3) := dk_180 0 22 (dk_at dksX1_asNow_0 4 rfl rfl)
theorem dX1_asNow_7 : decode cX1_asNow 7 = .ok (.invokevirtual 102, 3) := dk_182 0 102 (dk_at dksX1_asNow_0 7 rfl rfl)
theorem dX1_asNow_10 : decode cX1_asNow 10 = .ok (.if_icmp .ge 32, 3) := dk_162 0 32 (dk_at dksX1_asNow_0 10 rfl rfl)
theorem dX1_asNow_13 : decode cX1_asNow 13 = .ok (.aload_n 0, 1) := dk_42 (dk_at dksX1_asNow_0 13 rfl rfl)
theorem dX1_asNow_14 : decode cX1_asNow 14 = .ok (.getfield 63, 3) := dk_180 0 63 (dk_at dksX1_asNow_0 14 rfl rfl)
theorem dX1_asNow_17 : decode cX1_asNow 17 = .ok (.iload_n 1, 1) := dk_27 (dk_at dksX1_asNow_0 17 rfl rfl)
theorem dX1_asNow_18 : decode cX1_asNow 18 = .ok (.aload_n 0, 1) := dk_42 (dk_at dksX1_asNow_0 18 rfl rfl)
theorem dX1_asNow_19 : decode cX1_asNow 19 = .ok (.getfield 22, 3) := dk_180 0 22 (dk_at dksX1_asNow_0 19 rfl rfl)
theorem dX1_asNow_22 : decode cX1_asNow 22 = .ok (.getfield 114, 3) := dk_180 0 114 (dk_at dksX1_asNow_1 0 rfl rfl)
theorem dX1_asNow_25 : decode cX1_asNow 25 = .ok (.iload_n 1, 1) := dk_27 (dk_at dksX1_asNow_1 3 rfl rfl)
theorem dX1_asNow_26 : decode cX1_asNow 26 = .ok (.invokevirtual 118, 3) := dk_182 0 118 (dk_at dksX1_asNow_1 4 rfl rfl)
theorem dX1_asNow_29 : decode cX1_asNow 29 = .ok (.checkcast 124, 3) := dk_192 0 124 (dk_at dksX1_asNow_1 7 rfl rfl)
theorem dX1_asNow_32 : decode cX1_asNow 32 = .ok (.getfield 299, 3) := dk_180 1 43 (dk_at dksX1_asNow_1 10 rfl rfl)
theorem dX1_asNow_35 : decode cX1_asNow 35 = .ok (.iastore, 1) := dk_79 (dk_at dksX1_asNow_1 13 rfl rfl)
theorem dX1_asNow_36 : decode cX1_asNow 36 = .ok (.iinc 1 1, 3) := dk_132 1 1 (dk_at dksX1_asNow_1 14 rfl rfl)
theorem dX1_asNow_39 : decode cX1_asNow 39 = .ok (.goto (-37), 3) := dk_167 255 219 (dk_at dksX1_asNow_1 17 rfl rfl)
theorem dX1_asNow_42 : decode cX1_asNow 42 = .ok (.return_, 1) := dk_177 (dk_at dksX1_asNow_1 20 rfl rfl)
abbrev cX1_leads : ByteArray := prog_1_method_35_code
def yX1_leads : MethodName := ⟨RX1, "leads", "(IZ)I"⟩
def dkwX1_leads_4 : List UInt8 := [167, 255, 191, 29, 172]
abbrev dktX1_leads_4 : List UInt8 := dkwX1_leads_4 ++ []
def dkwX1_leads_3 : List UInt8 := [162, 0, 17, 42, 27, 21, 4, 182, 1, 92, 153, 0, 7, 4, 167, 0, 4, 3, 96, 62, 132, 4, 1]
abbrev dktX1_leads_3 : List UInt8 := dkwX1_leads_3 ++ dktX1_leads_4
def dkwX1_leads_2 : List UInt8 := [154, 0, 6, 167, 0, 40, 29, 28, 153, 0, 28, 21, 4, 16, 6, 96, 42, 180, 0, 22, 180, 0, 126]
abbrev dktX1_leads_2 : List UInt8 := dkwX1_leads_2 ++ dktX1_leads_3
def dkwX1_leads_1 : List UInt8 := [96, 54, 4, 21, 4, 42, 180, 0, 22, 180, 0, 126, 162, 0, 59, 42, 27, 21, 4, 182, 1, 89]
abbrev dktX1_leads_1 : List UInt8 := dkwX1_leads_1 ++ dktX1_leads_2
def dkwX1_leads_0 : List UInt8 := [42, 27, 182, 0, 153, 87, 3, 62, 3, 42, 180, 0, 22, 180, 0, 126, 17, 1, 0, 100, 184, 0, 243, 5]
abbrev dktX1_leads_0 : List UInt8 := dkwX1_leads_0 ++ dktX1_leads_1
theorem dksX1_leads_0 : cX1_leads.data.toList.drop 0 = dktX1_leads_0 := by decide +kernel
theorem dksX1_leads_1 : cX1_leads.data.toList.drop 24 = dktX1_leads_1 := dk_seg dksX1_leads_0 24 rfl rfl
theorem dksX1_leads_2 : cX1_leads.data.toList.drop 46 = dktX1_leads_2 := dk_seg dksX1_leads_1 22 rfl rfl
theorem dksX1_leads_3 : cX1_leads.data.toList.drop 69 = dktX1_leads_3 := dk_seg dksX1_leads_2 23 rfl rfl
theorem dksX1_leads_4 : cX1_leads.data.toList.drop 92 = dktX1_leads_4 := dk_seg dksX1_leads_3 23 rfl rfl
theorem dX1_leads_0 : decode cX1_leads 0 = .ok (.aload_n 0, 1) := dk_42 (dk_at dksX1_leads_0 0 rfl rfl)
theorem dX1_leads_1 : decode cX1_leads 1 = .ok (.iload_n 1, 1) := dk_27 (dk_at dksX1_leads_0 1 rfl rfl)
theorem dX1_leads_2 : decode cX1_leads 2 = .ok (.invokevirtual 153, 3) := dk_182 0 153 (dk_at dksX1_leads_0 2 rfl rfl)
theorem dX1_leads_5 : decode cX1_leads 5 = .ok (.pop, 1) := dk_87 (dk_at dksX1_leads_0 5 rfl rfl)
theorem dX1_leads_6 : decode cX1_leads 6 = .ok (.iconst 0, 1) := dk_3 (dk_at dksX1_leads_0 6 rfl rfl)
theorem dX1_leads_7 : decode cX1_leads 7 = .ok (.istore_n 3, 1) := dk_62 (dk_at dksX1_leads_0 7 rfl rfl)
theorem dX1_leads_8 : decode cX1_leads 8 = .ok (.iconst 0, 1) := dk_3 (dk_at dksX1_leads_0 8 rfl rfl)
theorem dX1_leads_9 : decode cX1_leads 9 = .ok (.aload_n 0, 1) := dk_42 (dk_at dksX1_leads_0 9 rfl rfl)
theorem dX1_leads_10 : decode cX1_leads 10 = .ok (.getfield 22, 3) := dk_180 0 22 (dk_at dksX1_leads_0 10 rfl rfl)
theorem dX1_leads_13 : decode cX1_leads 13 = .ok (.getfield 126, 3) := dk_180 0 126 (dk_at dksX1_leads_0 13 rfl rfl)
theorem dX1_leads_16 : decode cX1_leads 16 = .ok (.sipush 256, 3) := dk_17 1 0 (dk_at dksX1_leads_0 16 rfl rfl)
theorem dX1_leads_19 : decode cX1_leads 19 = .ok (.isub, 1) := dk_100 (dk_at dksX1_leads_0 19 rfl rfl)
theorem dX1_leads_20 : decode cX1_leads 20 = .ok (.invokestatic 243, 3) := dk_184 0 243 (dk_at dksX1_leads_0 20 rfl rfl)
theorem dX1_leads_23 : decode cX1_leads 23 = .ok (.iconst 2, 1) := dk_5 (dk_at dksX1_leads_0 23 rfl rfl)
theorem dX1_leads_24 : decode cX1_leads 24 = .ok (.iadd, 1) := dk_96 (dk_at dksX1_leads_1 0 rfl rfl)
theorem dX1_leads_25 : decode cX1_leads 25 = .ok (.istore 4, 2) := dk_54 4 (dk_at dksX1_leads_1 1 rfl rfl)
theorem dX1_leads_27 : decode cX1_leads 27 = .ok (.iload 4, 2) := dk_21 4 (dk_at dksX1_leads_1 3 rfl rfl)
theorem dX1_leads_29 : decode cX1_leads 29 = .ok (.aload_n 0, 1) := dk_42 (dk_at dksX1_leads_1 5 rfl rfl)
theorem dX1_leads_30 : decode cX1_leads 30 = .ok (.getfield 22, 3) := dk_180 0 22 (dk_at dksX1_leads_1 6 rfl rfl)
theorem dX1_leads_33 : decode cX1_leads 33 = .ok (.getfield 126, 3) := dk_180 0 126 (dk_at dksX1_leads_1 9 rfl rfl)
theorem dX1_leads_36 : decode cX1_leads 36 = .ok (.if_icmp .ge 59, 3) := dk_162 0 59 (dk_at dksX1_leads_1 12 rfl rfl)
theorem dX1_leads_39 : decode cX1_leads 39 = .ok (.aload_n 0, 1) := dk_42 (dk_at dksX1_leads_1 15 rfl rfl)
theorem dX1_leads_40 : decode cX1_leads 40 = .ok (.iload_n 1, 1) := dk_27 (dk_at dksX1_leads_1 16 rfl rfl)
theorem dX1_leads_41 : decode cX1_leads 41 = .ok (.iload 4, 2) := dk_21 4 (dk_at dksX1_leads_1 17 rfl rfl)
theorem dX1_leads_43 : decode cX1_leads 43 = .ok (.invokevirtual 345, 3) := dk_182 1 89 (dk_at dksX1_leads_1 19 rfl rfl)
theorem dX1_leads_46 : decode cX1_leads 46 = .ok (.ifCond .ne 6, 3) := dk_154 0 6 (dk_at dksX1_leads_2 0 rfl rfl)
theorem dX1_leads_49 : decode cX1_leads 49 = .ok (.goto 40, 3) := dk_167 0 40 (dk_at dksX1_leads_2 3 rfl rfl)
theorem dX1_leads_52 : decode cX1_leads 52 = .ok (.iload_n 3, 1) := dk_29 (dk_at dksX1_leads_2 6 rfl rfl)
theorem dX1_leads_53 : decode cX1_leads 53 = .ok (.iload_n 2, 1) := dk_28 (dk_at dksX1_leads_2 7 rfl rfl)
theorem dX1_leads_54 : decode cX1_leads 54 = .ok (.ifCond .eq 28, 3) := dk_153 0 28 (dk_at dksX1_leads_2 8 rfl rfl)
theorem dX1_leads_57 : decode cX1_leads 57 = .ok (.iload 4, 2) := dk_21 4 (dk_at dksX1_leads_2 11 rfl rfl)
theorem dX1_leads_59 : decode cX1_leads 59 = .ok (.bipush 6, 2) := dk_16 6 (dk_at dksX1_leads_2 13 rfl rfl)
theorem dX1_leads_61 : decode cX1_leads 61 = .ok (.iadd, 1) := dk_96 (dk_at dksX1_leads_2 15 rfl rfl)
theorem dX1_leads_62 : decode cX1_leads 62 = .ok (.aload_n 0, 1) := dk_42 (dk_at dksX1_leads_2 16 rfl rfl)
theorem dX1_leads_63 : decode cX1_leads 63 = .ok (.getfield 22, 3) := dk_180 0 22 (dk_at dksX1_leads_2 17 rfl rfl)
theorem dX1_leads_66 : decode cX1_leads 66 = .ok (.getfield 126, 3) := dk_180 0 126 (dk_at dksX1_leads_2 20 rfl rfl)
theorem dX1_leads_69 : decode cX1_leads 69 = .ok (.if_icmp .ge 17, 3) := dk_162 0 17 (dk_at dksX1_leads_3 0 rfl rfl)
theorem dX1_leads_72 : decode cX1_leads 72 = .ok (.aload_n 0, 1) := dk_42 (dk_at dksX1_leads_3 3 rfl rfl)
theorem dX1_leads_73 : decode cX1_leads 73 = .ok (.iload_n 1, 1) := dk_27 (dk_at dksX1_leads_3 4 rfl rfl)
theorem dX1_leads_74 : decode cX1_leads 74 = .ok (.iload 4, 2) := dk_21 4 (dk_at dksX1_leads_3 5 rfl rfl)
theorem dX1_leads_76 : decode cX1_leads 76 = .ok (.invokevirtual 348, 3) := dk_182 1 92 (dk_at dksX1_leads_3 7 rfl rfl)
theorem dX1_leads_79 : decode cX1_leads 79 = .ok (.ifCond .eq 7, 3) := dk_153 0 7 (dk_at dksX1_leads_3 10 rfl rfl)
theorem dX1_leads_82 : decode cX1_leads 82 = .ok (.iconst 1, 1) := dk_4 (dk_at dksX1_leads_3 13 rfl rfl)
theorem dX1_leads_83 : decode cX1_leads 83 = .ok (.goto 4, 3) := dk_167 0 4 (dk_at dksX1_leads_3 14 rfl rfl)
theorem dX1_leads_86 : decode cX1_leads 86 = .ok (.iconst 0, 1) := dk_3 (dk_at dksX1_leads_3 17 rfl rfl)
theorem dX1_leads_87 : decode cX1_leads 87 = .ok (.iadd, 1) := dk_96 (dk_at dksX1_leads_3 18 rfl rfl)
theorem dX1_leads_88 : decode cX1_leads 88 = .ok (.istore_n 3, 1) := dk_62 (dk_at dksX1_leads_3 19 rfl rfl)
theorem dX1_leads_89 : decode cX1_leads 89 = .ok (.iinc 4 1, 3) := dk_132 4 1 (dk_at dksX1_leads_3 20 rfl rfl)
theorem dX1_leads_92 : decode cX1_leads 92 = .ok (.goto (-65), 3) := dk_167 255 191 (dk_at dksX1_leads_4 0 rfl rfl)
theorem dX1_leads_95 : decode cX1_leads 95 = .ok (.iload_n 3, 1) := dk_29 (dk_at dksX1_leads_4 3 rfl rfl)
theorem dX1_leads_96 : decode cX1_leads 96 = .ok (.ireturn, 1) := dk_172 (dk_at dksX1_leads_4 4 rfl rfl)
abbrev cX1_isLead : ByteArray := prog_1_method_33_code
def yX1_isLead : MethodName := ⟨RX1, "isLead", "(II)Z"⟩
def dkwX1_isLead_2 : List UInt8 := [153, 0, 5, 3, 172, 132, 3, 1, 167, 255, 215, 4, 172]
abbrev dktX1_isLead_2 : List UInt8 := dkwX1_isLead_2 ++ []
def dkwX1_isLead_1 : List UInt8 := [29, 27, 159, 0, 12, 42, 29, 28, 182, 1, 86, 154, 0, 14, 42, 29, 28, 4, 100, 182, 1, 86]
abbrev dktX1_isLead_1 : List UInt8 := dkwX1_isLead_1 ++ dktX1_isLead_2
def dkwX1_isLead_0 : List UInt8 := [42, 27, 28, 182, 1, 86, 154, 0, 5, 3, 172, 3, 62, 29, 42, 180, 0, 22, 182, 0, 102, 162, 0, 36]
abbrev dktX1_isLead_0 : List UInt8 := dkwX1_isLead_0 ++ dktX1_isLead_1
theorem dksX1_isLead_0 : cX1_isLead.data.toList.drop 0 = dktX1_isLead_0 := by decide +kernel
theorem dksX1_isLead_1 : cX1_isLead.data.toList.drop 24 = dktX1_isLead_1 := dk_seg dksX1_isLead_0 24 rfl rfl
theorem dksX1_isLead_2 : cX1_isLead.data.toList.drop 46 = dktX1_isLead_2 := dk_seg dksX1_isLead_1 22 rfl rfl
theorem dX1_isLead_0 : decode cX1_isLead 0 = .ok (.aload_n 0, 1) := dk_42 (dk_at dksX1_isLead_0 0 rfl rfl)
theorem dX1_isLead_1 : decode cX1_isLead 1 = .ok (.iload_n 1, 1) := dk_27 (dk_at dksX1_isLead_0 1 rfl rfl)
theorem dX1_isLead_2 : decode cX1_isLead 2 = .ok (.iload_n 2, 1) := dk_28 (dk_at dksX1_isLead_0 2 rfl rfl)
theorem dX1_isLead_3 : decode cX1_isLead 3 = .ok (.invokevirtual 342, 3) := dk_182 1 86 (dk_at dksX1_isLead_0 3 rfl rfl)
theorem dX1_isLead_6 : decode cX1_isLead 6 = .ok (.ifCond .ne 5, 3) := dk_154 0 5 (dk_at dksX1_isLead_0 6 rfl rfl)
theorem dX1_isLead_9 : decode cX1_isLead 9 = .ok (.iconst 0, 1) := dk_3 (dk_at dksX1_isLead_0 9 rfl rfl)
theorem dX1_isLead_10 : decode cX1_isLead 10 = .ok (.ireturn, 1) := dk_172 (dk_at dksX1_isLead_0 10 rfl rfl)
theorem dX1_isLead_11 : decode cX1_isLead 11 = .ok (.iconst 0, 1) := dk_3 (dk_at dksX1_isLead_0 11 rfl rfl)
theorem dX1_isLead_12 : decode cX1_isLead 12 = .ok (.istore_n 3, 1) := dk_62 (dk_at dksX1_isLead_0 12 rfl rfl)
theorem dX1_isLead_13 : decode cX1_isLead 13 = .ok (.iload_n 3, 1) := dk_29 (dk_at dksX1_isLead_0 13 rfl rfl)
theorem dX1_isLead_14 : decode cX1_isLead 14 = .ok (.aload_n 0, 1) := dk_42 (dk_at dksX1_isLead_0 14 rfl rfl)
theorem dX1_isLead_15 : decode cX1_isLead 15 = .ok (.getfield 22, 3) := dk_180 0 22 (dk_at dksX1_isLead_0 15 rfl rfl)
theorem dX1_isLead_18 : decode cX1_isLead 18 = .ok (.invokevirtual 102, 3) := dk_182 0 102 (dk_at dksX1_isLead_0 18 rfl rfl)
theorem dX1_isLead_21 : decode cX1_isLead 21 = .ok (.if_icmp .ge 36, 3) := dk_162 0 36 (dk_at dksX1_isLead_0 21 rfl rfl)
theorem dX1_isLead_24 : decode cX1_isLead 24 = .ok (.iload_n 3, 1) := dk_29 (dk_at dksX1_isLead_1 0 rfl rfl)
theorem dX1_isLead_25 : decode cX1_isLead 25 = .ok (.iload_n 1, 1) := dk_27 (dk_at dksX1_isLead_1 1 rfl rfl)
theorem dX1_isLead_26 : decode cX1_isLead 26 = .ok (.if_icmp .eq 12, 3) := dk_159 0 12 (dk_at dksX1_isLead_1 2 rfl rfl)
theorem dX1_isLead_29 : decode cX1_isLead 29 = .ok (.aload_n 0, 1) := dk_42 (dk_at dksX1_isLead_1 5 rfl rfl)
theorem dX1_isLead_30 : decode cX1_isLead 30 = .ok (.iload_n 3, 1) := dk_29 (dk_at dksX1_isLead_1 6 rfl rfl)
theorem dX1_isLead_31 : decode cX1_isLead 31 = .ok (.iload_n 2, 1) := dk_28 (dk_at dksX1_isLead_1 7 rfl rfl)
theorem dX1_isLead_32 : decode cX1_isLead 32 = .ok (.invokevirtual 342, 3) := dk_182 1 86 (dk_at dksX1_isLead_1 8 rfl rfl)
theorem dX1_isLead_35 : decode cX1_isLead 35 = .ok (.ifCond .ne 14, 3) := dk_154 0 14 (dk_at dksX1_isLead_1 11 rfl rfl)
theorem dX1_isLead_38 : decode cX1_isLead 38 = .ok (.aload_n 0, 1) := dk_42 (dk_at dksX1_isLead_1 14 rfl rfl)
theorem dX1_isLead_39 : decode cX1_isLead 39 = .ok (.iload_n 3, 1) := dk_29 (dk_at dksX1_isLead_1 15 rfl rfl)
theorem dX1_isLead_40 : decode cX1_isLead 40 = .ok (.iload_n 2, 1) := dk_28 (dk_at dksX1_isLead_1 16 rfl rfl)
theorem dX1_isLead_41 : decode cX1_isLead 41 = .ok (.iconst 1, 1) := dk_4 (dk_at dksX1_isLead_1 17 rfl rfl)
theorem dX1_isLead_42 : decode cX1_isLead 42 = .ok (.isub, 1) := dk_100 (dk_at dksX1_isLead_1 18 rfl rfl)
theorem dX1_isLead_43 : decode cX1_isLead 43 = .ok (.invokevirtual 342, 3) := dk_182 1 86 (dk_at dksX1_isLead_1 19 rfl rfl)
theorem dX1_isLead_46 : decode cX1_isLead 46 = .ok (.ifCond .eq 5, 3) := dk_153 0 5 (dk_at dksX1_isLead_2 0 rfl rfl)
theorem dX1_isLead_49 : decode cX1_isLead 49 = .ok (.iconst 0, 1) := dk_3 (dk_at dksX1_isLead_2 3 rfl rfl)
theorem dX1_isLead_50 : decode cX1_isLead 50 = .ok (.ireturn, 1) := dk_172 (dk_at dksX1_isLead_2 4 rfl rfl)
theorem dX1_isLead_51 : decode cX1_isLead 51 = .ok (.iinc 3 1, 3) := dk_132 3 1 (dk_at dksX1_isLead_2 5 rfl rfl)
theorem dX1_isLead_54 : decode cX1_isLead 54 = .ok (.goto (-41), 3) := dk_167 255 215 (dk_at dksX1_isLead_2 8 rfl rfl)
theorem dX1_isLead_57 : decode cX1_isLead 57 = .ok (.iconst 1, 1) := dk_4 (dk_at dksX1_isLead_2 11 rfl rfl)
theorem dX1_isLead_58 : decode cX1_isLead 58 = .ok (.ireturn, 1) := dk_172 (dk_at dksX1_isLead_2 12 rfl rfl)
abbrev cX1_goesUp : ByteArray := prog_1_method_32_code
def yX1_goesUp : MethodName := ⟨RX1, "goesUp", "(II)Z"⟩
def dkwX1_goesUp_1 : List UInt8 := [167, 0, 4, 3, 172]
abbrev dktX1_goesUp_1 : List UInt8 := dkwX1_goesUp_1 ++ []
def dkwX1_goesUp_0 : List UInt8 := [42, 180, 0, 22, 27, 28, 182, 1, 76, 42, 180, 0, 22, 27, 28, 4, 100, 182, 1, 76, 164, 0, 7, 4]
abbrev dktX1_goesUp_0 : List UInt8 := dkwX1_goesUp_0 ++ dktX1_goesUp_1
theorem dksX1_goesUp_0 : cX1_goesUp.data.toList.drop 0 = dktX1_goesUp_0 := by decide +kernel
theorem dksX1_goesUp_1 : cX1_goesUp.data.toList.drop 24 = dktX1_goesUp_1 := dk_seg dksX1_goesUp_0 24 rfl rfl
theorem dX1_goesUp_0 : decode cX1_goesUp 0 = .ok (.aload_n 0, 1) := dk_42 (dk_at dksX1_goesUp_0 0 rfl rfl)
theorem dX1_goesUp_1 : decode cX1_goesUp 1 = .ok (.getfield 22, 3) := dk_180 0 22 (dk_at dksX1_goesUp_0 1 rfl rfl)
theorem dX1_goesUp_4 : decode cX1_goesUp 4 = .ok (.iload_n 1, 1) := dk_27 (dk_at dksX1_goesUp_0 4 rfl rfl)
theorem dX1_goesUp_5 : decode cX1_goesUp 5 = .ok (.iload_n 2, 1) := dk_28 (dk_at dksX1_goesUp_0 5 rfl rfl)
theorem dX1_goesUp_6 : decode cX1_goesUp 6 = .ok (.invokevirtual 332, 3) := dk_182 1 76 (dk_at dksX1_goesUp_0 6 rfl rfl)
theorem dX1_goesUp_9 : decode cX1_goesUp 9 = .ok (.aload_n 0, 1) := dk_42 (dk_at dksX1_goesUp_0 9 rfl rfl)
theorem dX1_goesUp_10 : decode cX1_goesUp 10 = .ok (.getfield 22, 3) := dk_180 0 22 (dk_at dksX1_goesUp_0 10 rfl rfl)
theorem dX1_goesUp_13 : decode cX1_goesUp 13 = .ok (.iload_n 1, 1) := dk_27 (dk_at dksX1_goesUp_0 13 rfl rfl)
theorem dX1_goesUp_14 : decode cX1_goesUp 14 = .ok (.iload_n 2, 1) := dk_28 (dk_at dksX1_goesUp_0 14 rfl rfl)
theorem dX1_goesUp_15 : decode cX1_goesUp 15 = .ok (.iconst 1, 1) := dk_4 (dk_at dksX1_goesUp_0 15 rfl rfl)
theorem dX1_goesUp_16 : decode cX1_goesUp 16 = .ok (.isub, 1) := dk_100 (dk_at dksX1_goesUp_0 16 rfl rfl)
theorem dX1_goesUp_17 : decode cX1_goesUp 17 = .ok (.invokevirtual 332, 3) := dk_182 1 76 (dk_at dksX1_goesUp_0 17 rfl rfl)
theorem dX1_goesUp_20 : decode cX1_goesUp 20 = .ok (.if_icmp .le 7, 3) := dk_164 0 7 (dk_at dksX1_goesUp_0 20 rfl rfl)
theorem dX1_goesUp_23 : decode cX1_goesUp 23 = .ok (.iconst 1, 1) := dk_4 (dk_at dksX1_goesUp_0 23 rfl rfl)
theorem dX1_goesUp_24 : decode cX1_goesUp 24 = .ok (.goto 4, 3) := dk_167 0 4 (dk_at dksX1_goesUp_1 0 rfl rfl)
theorem dX1_goesUp_27 : decode cX1_goesUp 27 = .ok (.iconst 0, 1) := dk_3 (dk_at dksX1_goesUp_1 3 rfl rfl)
theorem dX1_goesUp_28 : decode cX1_goesUp 28 = .ok (.ireturn, 1) := dk_172 (dk_at dksX1_goesUp_1 4 rfl rfl)
abbrev cX1_isFollowed : ByteArray := prog_1_method_34_code
def yX1_isFollowed : MethodName := ⟨RX1, "isFollowed", "(II)Z"⟩
def dkwX1_isFollowed_3 : List UInt8 := [167, 255, 189, 4, 172]
abbrev dktX1_isFollowed_3 : List UInt8 := dkwX1_isFollowed_3 ++ []
def dkwX1_isFollowed_2 : List UInt8 := [21, 5, 182, 1, 86, 54, 4, 132, 5, 1, 167, 255, 230, 21, 4, 154, 0, 5, 3, 172, 132, 3, 1]
abbrev dktX1_isFollowed_2 : List UInt8 := dkwX1_isFollowed_2 ++ dktX1_isFollowed_3
def dkwX1_isFollowed_1 : List UInt8 := [54, 4, 28, 4, 96, 54, 5, 21, 5, 28, 16, 6, 96, 163, 0, 23, 21, 4, 154, 0, 18, 42, 29]
abbrev dktX1_isFollowed_1 : List UInt8 := dkwX1_isFollowed_1 ++ dktX1_isFollowed_2
def dkwX1_isFollowed_0 : List UInt8 := [3, 62, 29, 42, 180, 0, 22, 182, 0, 102, 162, 0, 62, 29, 27, 160, 0, 7, 4, 167, 0, 4, 3]
abbrev dktX1_isFollowed_0 : List UInt8 := dkwX1_isFollowed_0 ++ dktX1_isFollowed_1
theorem dksX1_isFollowed_0 : cX1_isFollowed.data.toList.drop 0 = dktX1_isFollowed_0 := by decide +kernel
theorem dksX1_isFollowed_1 : cX1_isFollowed.data.toList.drop 23 = dktX1_isFollowed_1 := dk_seg dksX1_isFollowed_0 23 rfl rfl
theorem dksX1_isFollowed_2 : cX1_isFollowed.data.toList.drop 46 = dktX1_isFollowed_2 := dk_seg dksX1_isFollowed_1 23 rfl rfl
theorem dksX1_isFollowed_3 : cX1_isFollowed.data.toList.drop 69 = dktX1_isFollowed_3 := dk_seg dksX1_isFollowed_2 23 rfl rfl
theorem dX1_isFollowed_0 : decode cX1_isFollowed 0 = .ok (.iconst 0, 1) := dk_3 (dk_at dksX1_isFollowed_0 0 rfl rfl)
theorem dX1_isFollowed_1 : decode cX1_isFollowed 1 = .ok (.istore_n 3, 1) := dk_62 (dk_at dksX1_isFollowed_0 1 rfl rfl)
theorem dX1_isFollowed_2 : decode cX1_isFollowed 2 = .ok (.iload_n 3, 1) := dk_29 (dk_at dksX1_isFollowed_0 2 rfl rfl)
theorem dX1_isFollowed_3 : decode cX1_isFollowed 3 = .ok (.aload_n 0, 1) := dk_42 (dk_at dksX1_isFollowed_0 3 rfl rfl)
theorem dX1_isFollowed_4 : decode cX1_isFollowed 4 = .ok (.getfield 22, 3) := dk_180 0 22 (dk_at dksX1_isFollowed_0 4 rfl rfl)
theorem dX1_isFollowed_7 : decode cX1_isFollowed 7 = .ok (.invokevirtual 102, 3) := dk_182 0 102 (dk_at dksX1_isFollowed_0 7 rfl rfl)
theorem dX1_isFollowed_10 : decode cX1_isFollowed 10 = .ok (.if_icmp .ge 62, 3) := dk_162 0 62 (dk_at dksX1_isFollowed_0 10 rfl rfl)
theorem dX1_isFollowed_13 : decode cX1_isFollowed 13 = .ok (.iload_n 3, 1) := dk_29 (dk_at dksX1_isFollowed_0 13 rfl rfl)
theorem dX1_isFollowed_14 : decode cX1_isFollowed 14 = .ok (.iload_n 1, 1) := dk_27 (dk_at dksX1_isFollowed_0 14 rfl rfl)
theorem dX1_isFollowed_15 : decode cX1_isFollowed 15 = .ok (.if_icmp .ne 7, 3) := dk_160 0 7 (dk_at dksX1_isFollowed_0 15 rfl rfl)
theorem dX1_isFollowed_18 : decode cX1_isFollowed 18 = .ok (.iconst 1, 1) := dk_4 (dk_at dksX1_isFollowed_0 18 rfl rfl)
theorem dX1_isFollowed_19 : decode cX1_isFollowed 19 = .ok (.goto 4, 3) := dk_167 0 4 (dk_at dksX1_isFollowed_0 19 rfl rfl)
theorem dX1_isFollowed_22 : decode cX1_isFollowed 22 = .ok (.iconst 0, 1) := dk_3 (dk_at dksX1_isFollowed_0 22 rfl rfl)
theorem dX1_isFollowed_23 : decode cX1_isFollowed 23 = .ok (.istore 4, 2) := dk_54 4 (dk_at dksX1_isFollowed_1 0 rfl rfl)
theorem dX1_isFollowed_25 : decode cX1_isFollowed 25 = .ok (.iload_n 2, 1) := dk_28 (dk_at dksX1_isFollowed_1 2 rfl rfl)
theorem dX1_isFollowed_26 : decode cX1_isFollowed 26 = .ok (.iconst 1, 1) := dk_4 (dk_at dksX1_isFollowed_1 3 rfl rfl)
theorem dX1_isFollowed_27 : decode cX1_isFollowed 27 = .ok (.iadd, 1) := dk_96 (dk_at dksX1_isFollowed_1 4 rfl rfl)
theorem dX1_isFollowed_28 : decode cX1_isFollowed 28 = .ok (.istore 5, 2) := dk_54 5 (dk_at dksX1_isFollowed_1 5 rfl rfl)
theorem dX1_isFollowed_30 : decode cX1_isFollowed 30 = .ok (.iload 5, 2) := dk_21 5 (dk_at dksX1_isFollowed_1 7 rfl rfl)
theorem dX1_isFollowed_32 : decode cX1_isFollowed 32 = .ok (.iload_n 2, 1) := dk_28 (dk_at dksX1_isFollowed_1 9 rfl rfl)
theorem dX1_isFollowed_33 : decode cX1_isFollowed 33 = .ok (.bipush 6, 2) := dk_16 6 (dk_at dksX1_isFollowed_1 10 rfl rfl)
theorem dX1_isFollowed_35 : decode cX1_isFollowed 35 = .ok (.iadd, 1) := dk_96 (dk_at dksX1_isFollowed_1 12 rfl rfl)
theorem dX1_isFollowed_36 : decode cX1_isFollowed 36 = .ok (.if_icmp .gt 23, 3) := dk_163 0 23 (dk_at dksX1_isFollowed_1 13 rfl rfl)
theorem dX1_isFollowed_39 : decode cX1_isFollowed 39 = .ok (.iload 4, 2) := dk_21 4 (dk_at dksX1_isFollowed_1 16 rfl rfl)
theorem dX1_isFollowed_41 : decode cX1_isFollowed 41 = .ok (.ifCond .ne 18, 3) := dk_154 0 18 (dk_at dksX1_isFollowed_1 18 rfl rfl)
theorem dX1_isFollowed_44 : decode cX1_isFollowed 44 = .ok (.aload_n 0, 1) := dk_42 (dk_at dksX1_isFollowed_1 21 rfl rfl)
theorem dX1_isFollowed_45 : decode cX1_isFollowed 45 = .ok (.iload_n 3, 1) := dk_29 (dk_at dksX1_isFollowed_1 22 rfl rfl)
theorem dX1_isFollowed_46 : decode cX1_isFollowed 46 = .ok (.iload 5, 2) := dk_21 5 (dk_at dksX1_isFollowed_2 0 rfl rfl)
theorem dX1_isFollowed_48 : decode cX1_isFollowed 48 = .ok (.invokevirtual 342, 3) := dk_182 1 86 (dk_at dksX1_isFollowed_2 2 rfl rfl)
theorem dX1_isFollowed_51 : decode cX1_isFollowed 51 = .ok (.istore 4, 2) := dk_54 4 (dk_at dksX1_isFollowed_2 5 rfl rfl)
theorem dX1_isFollowed_53 : decode cX1_isFollowed 53 = .ok (.iinc 5 1, 3) := dk_132 5 1 (dk_at dksX1_isFollowed_2 7 rfl rfl)
theorem dX1_isFollowed_56 : decode cX1_isFollowed 56 = .ok (.goto (-26), 3) := dk_167 255 230 (dk_at dksX1_isFollowed_2 10 rfl rfl)
theorem dX1_isFollowed_59 : decode cX1_isFollowed 59 = .ok (.iload 4, 2) := dk_21 4 (dk_at dksX1_isFollowed_2 13 rfl rfl)
theorem dX1_isFollowed_61 : decode cX1_isFollowed 61 = .ok (.ifCond .ne 5, 3) := dk_154 0 5 (dk_at dksX1_isFollowed_2 15 rfl rfl)
theorem dX1_isFollowed_64 : decode cX1_isFollowed 64 = .ok (.iconst 0, 1) := dk_3 (dk_at dksX1_isFollowed_2 18 rfl rfl)
theorem dX1_isFollowed_65 : decode cX1_isFollowed 65 = .ok (.ireturn, 1) := dk_172 (dk_at dksX1_isFollowed_2 19 rfl rfl)
theorem dX1_isFollowed_66 : decode cX1_isFollowed 66 = .ok (.iinc 3 1, 3) := dk_132 3 1 (dk_at dksX1_isFollowed_2 20 rfl rfl)
theorem dX1_isFollowed_69 : decode cX1_isFollowed 69 = .ok (.goto (-67), 3) := dk_167 255 189 (dk_at dksX1_isFollowed_3 0 rfl rfl)
theorem dX1_isFollowed_72 : decode cX1_isFollowed 72 = .ok (.iconst 1, 1) := dk_4 (dk_at dksX1_isFollowed_3 3 rfl rfl)
theorem dX1_isFollowed_73 : decode cX1_isFollowed 73 = .ok (.ireturn, 1) := dk_172 (dk_at dksX1_isFollowed_3 4 rfl rfl)
abbrev cX1_passed : ByteArray := prog_1_method_40_code
def yX1_passed : MethodName := ⟨RX1, "passed", "(IIZ)Z"⟩
def dkwX1_passed_8 : List UInt8 := [167, 255, 96, 22, 6, 9, 148, 154, 0, 5, 3, 172, 42, 22, 4, 22, 6, 182, 1, 119, 4, 172]
abbrev dktX1_passed_8 : List UInt8 := dkwX1_passed_8 ++ []
def dkwX1_passed_7 : List UInt8 := [184, 0, 243, 133, 97, 55, 4, 22, 6, 25, 9, 180, 1, 112, 184, 1, 115, 133, 97, 55, 6, 132, 8, 1]
abbrev dktX1_passed_7 : List UInt8 := dkwX1_passed_7 ++ dktX1_passed_8
def dkwX1_passed_6 : List UInt8 := [21, 10, 182, 1, 76, 100, 54, 11, 22, 4, 3, 29, 153, 0, 8, 21, 11, 167, 0, 6, 21, 11, 116]
abbrev dktX1_passed_6 : List UInt8 := dkwX1_passed_6 ++ dktX1_passed_7
def dkwX1_passed_5 : List UInt8 := [154, 0, 6, 167, 0, 64, 42, 180, 0, 22, 27, 21, 10, 28, 96, 182, 1, 76, 42, 180, 0, 22, 27]
abbrev dktX1_passed_5 : List UInt8 := dkwX1_passed_5 ++ dktX1_passed_6
def dkwX1_passed_4 : List UInt8 := [42, 180, 0, 22, 21, 10, 182, 1, 72, 153, 0, 81, 42, 180, 0, 22, 21, 10, 28, 96, 182, 1, 72]
abbrev dktX1_passed_4 : List UInt8 := dkwX1_passed_4 ++ dktX1_passed_5
def dkwX1_passed_3 : List UInt8 := [180, 1, 109, 27, 160, 0, 110, 25, 9, 180, 1, 112, 158, 0, 7, 4, 167, 0, 4, 3, 29, 160, 0, 93]
abbrev dktX1_passed_3 : List UInt8 := dkwX1_passed_3 ++ dktX1_passed_4
def dkwX1_passed_2 : List UInt8 := [180, 0, 173, 21, 8, 182, 0, 118, 192, 0, 179, 58, 9, 25, 9, 180, 1, 107, 4, 100, 54, 10, 25, 9]
abbrev dktX1_passed_2 : List UInt8 := dkwX1_passed_2 ++ dktX1_passed_3
def dkwX1_passed_1 : List UInt8 := [3, 54, 8, 21, 8, 42, 180, 0, 22, 180, 0, 173, 182, 0, 162, 162, 0, 151, 42, 180, 0, 22]
abbrev dktX1_passed_1 : List UInt8 := dkwX1_passed_1 ++ dktX1_passed_2
def dkwX1_passed_0 : List UInt8 := [42, 27, 182, 0, 153, 87, 28, 133, 10, 20, 1, 105, 184, 0, 106, 184, 0, 143, 9, 55, 4, 9, 55, 6]
abbrev dktX1_passed_0 : List UInt8 := dkwX1_passed_0 ++ dktX1_passed_1
theorem dksX1_passed_0 : cX1_passed.data.toList.drop 0 = dktX1_passed_0 := by decide +kernel
theorem dksX1_passed_1 : cX1_passed.data.toList.drop 24 = dktX1_passed_1 := dk_seg dksX1_passed_0 24 rfl rfl
theorem dksX1_passed_2 : cX1_passed.data.toList.drop 46 = dktX1_passed_2 := dk_seg dksX1_passed_1 22 rfl rfl
theorem dksX1_passed_3 : cX1_passed.data.toList.drop 70 = dktX1_passed_3 := dk_seg dksX1_passed_2 24 rfl rfl
theorem dksX1_passed_4 : cX1_passed.data.toList.drop 94 = dktX1_passed_4 := dk_seg dksX1_passed_3 24 rfl rfl
theorem dksX1_passed_5 : cX1_passed.data.toList.drop 117 = dktX1_passed_5 := dk_seg dksX1_passed_4 23 rfl rfl
theorem dksX1_passed_6 : cX1_passed.data.toList.drop 140 = dktX1_passed_6 := dk_seg dksX1_passed_5 23 rfl rfl
theorem dksX1_passed_7 : cX1_passed.data.toList.drop 163 = dktX1_passed_7 := dk_seg dksX1_passed_6 23 rfl rfl
theorem dksX1_passed_8 : cX1_passed.data.toList.drop 187 = dktX1_passed_8 := dk_seg dksX1_passed_7 24 rfl rfl
theorem dX1_passed_0 : decode cX1_passed 0 = .ok (.aload_n 0, 1) := dk_42 (dk_at dksX1_passed_0 0 rfl rfl)
theorem dX1_passed_1 : decode cX1_passed 1 = .ok (.iload_n 1, 1) := dk_27 (dk_at dksX1_passed_0 1 rfl rfl)
theorem dX1_passed_2 : decode cX1_passed 2 = .ok (.invokevirtual 153, 3) := dk_182 0 153 (dk_at dksX1_passed_0 2 rfl rfl)
theorem dX1_passed_5 : decode cX1_passed 5 = .ok (.pop, 1) := dk_87 (dk_at dksX1_passed_0 5 rfl rfl)
theorem dX1_passed_6 : decode cX1_passed 6 = .ok (.iload_n 2, 1) := dk_28 (dk_at dksX1_passed_0 6 rfl rfl)
theorem dX1_passed_7 : decode cX1_passed 7 = .ok (.i2l, 1) := dk_133 (dk_at dksX1_passed_0 7 rfl rfl)
theorem dX1_passed_8 : decode cX1_passed 8 = .ok (.lconst 1, 1) := dk_10 (dk_at dksX1_passed_0 8 rfl rfl)
theorem dX1_passed_9 : decode cX1_passed 9 = .ok (.ldc2_w 361, 3) := dk_20 1 105 (dk_at dksX1_passed_0 9 rfl rfl)
theorem dX1_passed_12 : decode cX1_passed 12 = .ok (.invokestatic 106, 3) := dk_184 0 106 (dk_at dksX1_passed_0 12 rfl rfl)
theorem dX1_passed_15 : decode cX1_passed 15 = .ok (.invokestatic 143, 3) := dk_184 0 143 (dk_at dksX1_passed_0 15 rfl rfl)
theorem dX1_passed_18 : decode cX1_passed 18 = .ok (.lconst 0, 1) := dk_9 (dk_at dksX1_passed_0 18 rfl rfl)
theorem dX1_passed_19 : decode cX1_passed 19 = .ok (.lstore 4, 2) := dk_55 4 (dk_at dksX1_passed_0 19 rfl rfl)
theorem dX1_passed_21 : decode cX1_passed 21 = .ok (.lconst 0, 1) := dk_9 (dk_at dksX1_passed_0 21 rfl rfl)
theorem dX1_passed_22 : decode cX1_passed 22 = .ok (.lstore 6, 2) := dk_55 6 (dk_at dksX1_passed_0 22 rfl rfl)
theorem dX1_passed_24 : decode cX1_passed 24 = .ok (.iconst 0, 1) := dk_3 (dk_at dksX1_passed_1 0 rfl rfl)
theorem dX1_passed_25 : decode cX1_passed 25 = .ok (.istore 8, 2) := dk_54 8 (dk_at dksX1_passed_1 1 rfl rfl)
theorem dX1_passed_27 : decode cX1_passed 27 = .ok (.iload 8, 2) := dk_21 8 (dk_at dksX1_passed_1 3 rfl rfl)
theorem dX1_passed_29 : decode cX1_passed 29 = .ok (.aload_n 0, 1) := dk_42 (dk_at dksX1_passed_1 5 rfl rfl)
theorem dX1_passed_30 : decode cX1_passed 30 = .ok (.getfield 22, 3) := dk_180 0 22 (dk_at dksX1_passed_1 6 rfl rfl)
theorem dX1_passed_33 : decode cX1_passed 33 = .ok (.getfield 173, 3) := dk_180 0 173 (dk_at dksX1_passed_1 9 rfl rfl)
theorem dX1_passed_36 : decode cX1_passed 36 = .ok (.invokevirtual 162, 3) := dk_182 0 162 (dk_at dksX1_passed_1 12 rfl rfl)
theorem dX1_passed_39 : decode cX1_passed 39 = .ok (.if_icmp .ge 151, 3) := dk_162 0 151 (dk_at dksX1_passed_1 15 rfl rfl)
theorem dX1_passed_42 : decode cX1_passed 42 = .ok (.aload_n 0, 1) := dk_42 (dk_at dksX1_passed_1 18 rfl rfl)
theorem dX1_passed_43 : decode cX1_passed 43 = .ok (.getfield 22, 3) := dk_180 0 22 (dk_at dksX1_passed_1 19 rfl rfl)
theorem dX1_passed_46 : decode cX1_passed 46 = .ok (.getfield 173, 3) := dk_180 0 173 (dk_at dksX1_passed_2 0 rfl rfl)
theorem dX1_passed_49 : decode cX1_passed 49 = .ok (.iload 8, 2) := dk_21 8 (dk_at dksX1_passed_2 3 rfl rfl)
theorem dX1_passed_51 : decode cX1_passed 51 = .ok (.invokevirtual 118, 3) := dk_182 0 118 (dk_at dksX1_passed_2 5 rfl rfl)
theorem dX1_passed_54 : decode cX1_passed 54 = .ok (.checkcast 179, 3) := dk_192 0 179 (dk_at dksX1_passed_2 8 rfl rfl)
theorem dX1_passed_57 : decode cX1_passed 57 = .ok (.astore 9, 2) := dk_58 9 (dk_at dksX1_passed_2 11 rfl rfl)
theorem dX1_passed_59 : decode cX1_passed 59 = .ok (.aload 9, 2) := dk_25 9 (dk_at dksX1_passed_2 13 rfl rfl)
theorem dX1_passed_61 : decode cX1_passed 61 = .ok (.getfield 363, 3) := dk_180 1 107 (dk_at dksX1_passed_2 15 rfl rfl)
theorem dX1_passed_64 : decode cX1_passed 64 = .ok (.iconst 1, 1) := dk_4 (dk_at dksX1_passed_2 18 rfl rfl)
theorem dX1_passed_65 : decode cX1_passed 65 = .ok (.isub, 1) := dk_100 (dk_at dksX1_passed_2 19 rfl rfl)
theorem dX1_passed_66 : decode cX1_passed 66 = .ok (.istore 10, 2) := dk_54 10 (dk_at dksX1_passed_2 20 rfl rfl)
theorem dX1_passed_68 : decode cX1_passed 68 = .ok (.aload 9, 2) := dk_25 9 (dk_at dksX1_passed_2 22 rfl rfl)
theorem dX1_passed_70 : decode cX1_passed 70 = .ok (.getfield 365, 3) := dk_180 1 109 (dk_at dksX1_passed_3 0 rfl rfl)
theorem dX1_passed_73 : decode cX1_passed 73 = .ok (.iload_n 1, 1) := dk_27 (dk_at dksX1_passed_3 3 rfl rfl)
theorem dX1_passed_74 : decode cX1_passed 74 = .ok (.if_icmp .ne 110, 3) := dk_160 0 110 (dk_at dksX1_passed_3 4 rfl rfl)
theorem dX1_passed_77 : decode cX1_passed 77 = .ok (.aload 9, 2) := dk_25 9 (dk_at dksX1_passed_3 7 rfl rfl)
theorem dX1_passed_79 : decode cX1_passed 79 = .ok (.getfield 368, 3) := dk_180 1 112 (dk_at dksX1_passed_3 9 rfl rfl)
theorem dX1_passed_82 : decode cX1_passed 82 = .ok (.ifCond .le 7, 3) := dk_158 0 7 (dk_at dksX1_passed_3 12 rfl rfl)
theorem dX1_passed_85 : decode cX1_passed 85 = .ok (.iconst 1, 1) := dk_4 (dk_at dksX1_passed_3 15 rfl rfl)
theorem dX1_passed_86 : decode cX1_passed 86 = .ok (.goto 4, 3) := dk_167 0 4 (dk_at dksX1_passed_3 16 rfl rfl)
theorem dX1_passed_89 : decode cX1_passed 89 = .ok (.iconst 0, 1) := dk_3 (dk_at dksX1_passed_3 19 rfl rfl)
theorem dX1_passed_90 : decode cX1_passed 90 = .ok (.iload_n 3, 1) := dk_29 (dk_at dksX1_passed_3 20 rfl rfl)
theorem dX1_passed_91 : decode cX1_passed 91 = .ok (.if_icmp .ne 93, 3) := dk_160 0 93 (dk_at dksX1_passed_3 21 rfl rfl)
theorem dX1_passed_94 : decode cX1_passed 94 = .ok (.aload_n 0, 1) := dk_42 (dk_at dksX1_passed_4 0 rfl rfl)
theorem dX1_passed_95 : decode cX1_passed 95 = .ok (.getfield 22, 3) := dk_180 0 22 (dk_at dksX1_passed_4 1 rfl rfl)
theorem dX1_passed_98 : decode cX1_passed 98 = .ok (.iload 10, 2) := dk_21 10 (dk_at dksX1_passed_4 4 rfl rfl)
theorem dX1_passed_100 : decode cX1_passed 100 = .ok (.invokevirtual 328, 3) := dk_182 1 72 (dk_at dksX1_passed_4 6 rfl rfl)
theorem dX1_passed_103 : decode cX1_passed 103 = .ok (.ifCond .eq 81, 3) := dk_153 0 81 (dk_at dksX1_passed_4 9 rfl rfl)
theorem dX1_passed_106 : decode cX1_passed 106 = .ok (.aload_n 0, 1) := dk_42 (dk_at dksX1_passed_4 12 rfl rfl)
theorem dX1_passed_107 : decode cX1_passed 107 = .ok (.getfield 22, 3) := dk_180 0 22 (dk_at dksX1_passed_4 13 rfl rfl)
theorem dX1_passed_110 : decode cX1_passed 110 = .ok (.iload 10, 2) := dk_21 10 (dk_at dksX1_passed_4 16 rfl rfl)
theorem dX1_passed_112 : decode cX1_passed 112 = .ok (.iload_n 2, 1) := dk_28 (dk_at dksX1_passed_4 18 rfl rfl)
theorem dX1_passed_113 : decode cX1_passed 113 = .ok (.iadd, 1) := dk_96 (dk_at dksX1_passed_4 19 rfl rfl)
theorem dX1_passed_114 : decode cX1_passed 114 = .ok (.invokevirtual 328, 3) := dk_182 1 72 (dk_at dksX1_passed_4 20 rfl rfl)
theorem dX1_passed_117 : decode cX1_passed 117 = .ok (.ifCond .ne 6, 3) := dk_154 0 6 (dk_at dksX1_passed_5 0 rfl rfl)
theorem dX1_passed_120 : decode cX1_passed 120 = .ok (.goto 64, 3) := dk_167 0 64 (dk_at dksX1_passed_5 3 rfl rfl)
theorem dX1_passed_123 : decode cX1_passed 123 = .ok (.aload_n 0, 1) := dk_42 (dk_at dksX1_passed_5 6 rfl rfl)
theorem dX1_passed_124 : decode cX1_passed 124 = .ok (.getfield 22, 3) := dk_180 0 22 (dk_at dksX1_passed_5 7 rfl rfl)
theorem dX1_passed_127 : decode cX1_passed 127 = .ok (.iload_n 1, 1) := dk_27 (dk_at dksX1_passed_5 10 rfl rfl)
theorem dX1_passed_128 : decode cX1_passed 128 = .ok (.iload 10, 2) := dk_21 10 (dk_at dksX1_passed_5 11 rfl rfl)
theorem dX1_passed_130 : decode cX1_passed 130 = .ok (.iload_n 2, 1) := dk_28 (dk_at dksX1_passed_5 13 rfl rfl)
theorem dX1_passed_131 : decode cX1_passed 131 = .ok (.iadd, 1) := dk_96 (dk_at dksX1_passed_5 14 rfl rfl)
theorem dX1_passed_132 : decode cX1_passed 132 = .ok (.invokevirtual 332, 3) := dk_182 1 76 (dk_at dksX1_passed_5 15 rfl rfl)
theorem dX1_passed_135 : decode cX1_passed 135 = .ok (.aload_n 0, 1) := dk_42 (dk_at dksX1_passed_5 18 rfl rfl)
theorem dX1_passed_136 : decode cX1_passed 136 = .ok (.getfield 22, 3) := dk_180 0 22 (dk_at dksX1_passed_5 19 rfl rfl)
theorem dX1_passed_139 : decode cX1_passed 139 = .ok (.iload_n 1, 1) := dk_27 (dk_at dksX1_passed_5 22 rfl rfl)
theorem dX1_passed_140 : decode cX1_passed 140 = .ok (.iload 10, 2) := dk_21 10 (dk_at dksX1_passed_6 0 rfl rfl)
theorem dX1_passed_142 : decode cX1_passed 142 = .ok (.invokevirtual 332, 3) := dk_182 1 76 (dk_at dksX1_passed_6 2 rfl rfl)
theorem dX1_passed_145 : decode cX1_passed 145 = .ok (.isub, 1) := dk_100 (dk_at dksX1_passed_6 5 rfl rfl)
theorem dX1_passed_146 : decode cX1_passed 146 = .ok (.istore 11, 2) := dk_54 11 (dk_at dksX1_passed_6 6 rfl rfl)
theorem dX1_passed_148 : decode cX1_passed 148 = .ok (.lload 4, 2) := dk_22 4 (dk_at dksX1_passed_6 8 rfl rfl)
theorem dX1_passed_150 : decode cX1_passed 150 = .ok (.iconst 0, 1) := dk_3 (dk_at dksX1_passed_6 10 rfl rfl)
theorem dX1_passed_151 : decode cX1_passed 151 = .ok (.iload_n 3, 1) := dk_29 (dk_at dksX1_passed_6 11 rfl rfl)
theorem dX1_passed_152 : decode cX1_passed 152 = .ok (.ifCond .eq 8, 3) := dk_153 0 8 (dk_at dksX1_passed_6 12 rfl rfl)
theorem dX1_passed_155 : decode cX1_passed 155 = .ok (.iload 11, 2) := dk_21 11 (dk_at dksX1_passed_6 15 rfl rfl)
theorem dX1_passed_157 : decode cX1_passed 157 = .ok (.goto 6, 3) := dk_167 0 6 (dk_at dksX1_passed_6 17 rfl rfl)
theorem dX1_passed_160 : decode cX1_passed 160 = .ok (.iload 11, 2) := dk_21 11 (dk_at dksX1_passed_6 20 rfl rfl)
theorem dX1_passed_162 : decode cX1_passed 162 = .ok (.ineg, 1) := dk_116 (dk_at dksX1_passed_6 22 rfl rfl)
theorem dX1_passed_163 : decode cX1_passed 163 = .ok (.invokestatic 243, 3) := dk_184 0 243 (dk_at dksX1_passed_7 0 rfl rfl)
theorem dX1_passed_166 : decode cX1_passed 166 = .ok (.i2l, 1) := dk_133 (dk_at dksX1_passed_7 3 rfl rfl)
theorem dX1_passed_167 : decode cX1_passed 167 = .ok (.ladd, 1) := dk_97 (dk_at dksX1_passed_7 4 rfl rfl)
theorem dX1_passed_168 : decode cX1_passed 168 = .ok (.lstore 4, 2) := dk_55 4 (dk_at dksX1_passed_7 5 rfl rfl)
theorem dX1_passed_170 : decode cX1_passed 170 = .ok (.lload 6, 2) := dk_22 6 (dk_at dksX1_passed_7 7 rfl rfl)
theorem dX1_passed_172 : decode cX1_passed 172 = .ok (.aload 9, 2) := dk_25 9 (dk_at dksX1_passed_7 9 rfl rfl)
theorem dX1_passed_174 : decode cX1_passed 174 = .ok (.getfield 368, 3) := dk_180 1 112 (dk_at dksX1_passed_7 11 rfl rfl)
theorem dX1_passed_177 : decode cX1_passed 177 = .ok (.invokestatic 371, 3) := dk_184 1 115 (dk_at dksX1_passed_7 14 rfl rfl)
theorem dX1_passed_180 : decode cX1_passed 180 = .ok (.i2l, 1) := dk_133 (dk_at dksX1_passed_7 17 rfl rfl)
theorem dX1_passed_181 : decode cX1_passed 181 = .ok (.ladd, 1) := dk_97 (dk_at dksX1_passed_7 18 rfl rfl)
theorem dX1_passed_182 : decode cX1_passed 182 = .ok (.lstore 6, 2) := dk_55 6 (dk_at dksX1_passed_7 19 rfl rfl)
theorem dX1_passed_184 : decode cX1_passed 184 = .ok (.iinc 8 1, 3) := dk_132 8 1 (dk_at dksX1_passed_7 21 rfl rfl)
theorem dX1_passed_187 : decode cX1_passed 187 = .ok (.goto (-160), 3) := dk_167 255 96 (dk_at dksX1_passed_8 0 rfl rfl)
theorem dX1_passed_190 : decode cX1_passed 190 = .ok (.lload 6, 2) := dk_22 6 (dk_at dksX1_passed_8 3 rfl rfl)
theorem dX1_passed_192 : decode cX1_passed 192 = .ok (.lconst 0, 1) := dk_9 (dk_at dksX1_passed_8 5 rfl rfl)
theorem dX1_passed_193 : decode cX1_passed 193 = .ok (.lcmp, 1) := dk_148 (dk_at dksX1_passed_8 6 rfl rfl)
theorem dX1_passed_194 : decode cX1_passed 194 = .ok (.ifCond .ne 5, 3) := dk_154 0 5 (dk_at dksX1_passed_8 7 rfl rfl)
theorem dX1_passed_197 : decode cX1_passed 197 = .ok (.iconst 0, 1) := dk_3 (dk_at dksX1_passed_8 10 rfl rfl)
theorem dX1_passed_198 : decode cX1_passed 198 = .ok (.ireturn, 1) := dk_172 (dk_at dksX1_passed_8 11 rfl rfl)
theorem dX1_passed_199 : decode cX1_passed 199 = .ok (.aload_n 0, 1) := dk_42 (dk_at dksX1_passed_8 12 rfl rfl)
theorem dX1_passed_200 : decode cX1_passed 200 = .ok (.lload 4, 2) := dk_22 4 (dk_at dksX1_passed_8 13 rfl rfl)
theorem dX1_passed_202 : decode cX1_passed 202 = .ok (.lload 6, 2) := dk_22 6 (dk_at dksX1_passed_8 15 rfl rfl)
theorem dX1_passed_204 : decode cX1_passed 204 = .ok (.invokevirtual 375, 3) := dk_182 1 119 (dk_at dksX1_passed_8 17 rfl rfl)
theorem dX1_passed_207 : decode cX1_passed 207 = .ok (.iconst 1, 1) := dk_4 (dk_at dksX1_passed_8 20 rfl rfl)
theorem dX1_passed_208 : decode cX1_passed 208 = .ok (.ireturn, 1) := dk_172 (dk_at dksX1_passed_8 21 rfl rfl)
abbrev cX1_level : ByteArray := prog_1_method_41_code
def yX1_level : MethodName := ⟨RX1, "level", "(I)I"⟩
def dkwX1_level_4 : List UInt8 := [180, 0, 22, 180, 1, 123, 4, 100, 172]
abbrev dktX1_level_4 : List UInt8 := dkwX1_level_4 ++ []
def dkwX1_level_3 : List UInt8 := [42, 180, 0, 22, 180, 1, 123, 27, 79, 42, 180, 0, 22, 89, 180, 1, 123, 4, 96, 181, 1, 123, 42]
abbrev dktX1_level_3 : List UInt8 := dkwX1_level_3 ++ dktX1_level_4
def dkwX1_level_2 : List UInt8 := [184, 0, 143, 42, 180, 0, 22, 180, 1, 123, 16, 8, 160, 0, 5, 2, 172, 42, 180, 0, 22, 180, 1, 126]
abbrev dktX1_level_2 : List UInt8 := dkwX1_level_2 ++ dktX1_level_3
def dkwX1_level_1 : List UInt8 := [180, 0, 22, 180, 1, 126, 42, 180, 0, 22, 180, 1, 123, 4, 100, 46, 164, 0, 7, 4, 167, 0, 4, 3]
abbrev dktX1_level_1 : List UInt8 := dkwX1_level_1 ++ dktX1_level_2
def dkwX1_level_0 : List UInt8 := [27, 133, 9, 20, 0, 139, 184, 0, 106, 153, 0, 38, 42, 180, 0, 22, 180, 1, 123, 153, 0, 24, 27, 42]
abbrev dktX1_level_0 : List UInt8 := dkwX1_level_0 ++ dktX1_level_1
theorem dksX1_level_0 : cX1_level.data.toList.drop 0 = dktX1_level_0 := by decide +kernel
theorem dksX1_level_1 : cX1_level.data.toList.drop 24 = dktX1_level_1 := dk_seg dksX1_level_0 24 rfl rfl
theorem dksX1_level_2 : cX1_level.data.toList.drop 48 = dktX1_level_2 := dk_seg dksX1_level_1 24 rfl rfl
theorem dksX1_level_3 : cX1_level.data.toList.drop 72 = dktX1_level_3 := dk_seg dksX1_level_2 24 rfl rfl
theorem dksX1_level_4 : cX1_level.data.toList.drop 95 = dktX1_level_4 := dk_seg dksX1_level_3 23 rfl rfl
theorem dX1_level_0 : decode cX1_level 0 = .ok (.iload_n 1, 1) := dk_27 (dk_at dksX1_level_0 0 rfl rfl)
theorem dX1_level_1 : decode cX1_level 1 = .ok (.i2l, 1) := dk_133 (dk_at dksX1_level_0 1 rfl rfl)
theorem dX1_level_2 : decode cX1_level 2 = .ok (.lconst 0, 1) := dk_9 (dk_at dksX1_level_0 2 rfl rfl)
theorem dX1_level_3 : decode cX1_level 3 = .ok (.ldc2_w 139, 3) := dk_20 0 139 (dk_at dksX1_level_0 3 rfl rfl)
theorem dX1_level_6 : decode cX1_level 6 = .ok (.invokestatic 106, 3) := dk_184 0 106 (dk_at dksX1_level_0 6 rfl rfl)
theorem dX1_level_9 : decode cX1_level 9 = .ok (.ifCond .eq 38, 3) := dk_153 0 38 (dk_at dksX1_level_0 9 rfl rfl)
theorem dX1_level_12 : decode cX1_level 12 = .ok (.aload_n 0, 1) := dk_42 (dk_at dksX1_level_0 12 rfl rfl)
theorem dX1_level_13 : decode cX1_level 13 = .ok (.getfield 22, 3) := dk_180 0 22 (dk_at dksX1_level_0 13 rfl rfl)
theorem dX1_level_16 : decode cX1_level 16 = .ok (.getfield 379, 3) := dk_180 1 123 (dk_at dksX1_level_0 16 rfl rfl)
theorem dX1_level_19 : decode cX1_level 19 = .ok (.ifCond .eq 24, 3) := dk_153 0 24 (dk_at dksX1_level_0 19 rfl rfl)
theorem dX1_level_22 : decode cX1_level 22 = .ok (.iload_n 1, 1) := dk_27 (dk_at dksX1_level_0 22 rfl rfl)
theorem dX1_level_23 : decode cX1_level 23 = .ok (.aload_n 0, 1) := dk_42 (dk_at dksX1_level_0 23 rfl rfl)
theorem dX1_level_24 : decode cX1_level 24 = .ok (.getfield 22, 3) := dk_180 0 22 (dk_at dksX1_level_1 0 rfl rfl)
theorem dX1_level_27 : decode cX1_level 27 = .ok (.getfield 382, 3) := dk_180 1 126 (dk_at dksX1_level_1 3 rfl rfl)
theorem dX1_level_30 : decode cX1_level 30 = .ok (.aload_n 0, 1) := dk_42 (dk_at dksX1_level_1 6 rfl rfl)
theorem dX1_level_31 : decode cX1_level 31 = .ok (.getfield 22, 3) := dk_180 0 22 (dk_at dksX1_level_1 7 rfl rfl)
theorem dX1_level_34 : decode cX1_level 34 = .ok (.getfield 379, 3) := dk_180 1 123 (dk_at dksX1_level_1 10 rfl rfl)
theorem dX1_level_37 : decode cX1_level 37 = .ok (.iconst 1, 1) := dk_4 (dk_at dksX1_level_1 13 rfl rfl)
theorem dX1_level_38 : decode cX1_level 38 = .ok (.isub, 1) := dk_100 (dk_at dksX1_level_1 14 rfl rfl)
theorem dX1_level_39 : decode cX1_level 39 = .ok (.iaload, 1) := dk_46 (dk_at dksX1_level_1 15 rfl rfl)
theorem dX1_level_40 : decode cX1_level 40 = .ok (.if_icmp .le 7, 3) := dk_164 0 7 (dk_at dksX1_level_1 16 rfl rfl)
theorem dX1_level_43 : decode cX1_level 43 = .ok (.iconst 1, 1) := dk_4 (dk_at dksX1_level_1 19 rfl rfl)
theorem dX1_level_44 : decode cX1_level 44 = .ok (.goto 4, 3) := dk_167 0 4 (dk_at dksX1_level_1 20 rfl rfl)
theorem dX1_level_47 : decode cX1_level 47 = .ok (.iconst 0, 1) := dk_3 (dk_at dksX1_level_1 23 rfl rfl)
theorem dX1_level_48 : decode cX1_level 48 = .ok (.invokestatic 143, 3) := dk_184 0 143 (dk_at dksX1_level_2 0 rfl rfl)
theorem dX1_level_51 : decode cX1_level 51 = .ok (.aload_n 0, 1) := dk_42 (dk_at dksX1_level_2 3 rfl rfl)
theorem dX1_level_52 : decode cX1_level 52 = .ok (.getfield 22, 3) := dk_180 0 22 (dk_at dksX1_level_2 4 rfl rfl)
theorem dX1_level_55 : decode cX1_level 55 = .ok (.getfield 379, 3) := dk_180 1 123 (dk_at dksX1_level_2 7 rfl rfl)
theorem dX1_level_58 : decode cX1_level 58 = .ok (.bipush 8, 2) := dk_16 8 (dk_at dksX1_level_2 10 rfl rfl)
theorem dX1_level_60 : decode cX1_level 60 = .ok (.if_icmp .ne 5, 3) := dk_160 0 5 (dk_at dksX1_level_2 12 rfl rfl)
theorem dX1_level_63 : decode cX1_level 63 = .ok (.iconst (-1), 1) := dk_2 (dk_at dksX1_level_2 15 rfl rfl)
theorem dX1_level_64 : decode cX1_level 64 = .ok (.ireturn, 1) := dk_172 (dk_at dksX1_level_2 16 rfl rfl)
theorem dX1_level_65 : decode cX1_level 65 = .ok (.aload_n 0, 1) := dk_42 (dk_at dksX1_level_2 17 rfl rfl)
theorem dX1_level_66 : decode cX1_level 66 = .ok (.getfield 22, 3) := dk_180 0 22 (dk_at dksX1_level_2 18 rfl rfl)
theorem dX1_level_69 : decode cX1_level 69 = .ok (.getfield 382, 3) := dk_180 1 126 (dk_at dksX1_level_2 21 rfl rfl)
theorem dX1_level_72 : decode cX1_level 72 = .ok (.aload_n 0, 1) := dk_42 (dk_at dksX1_level_3 0 rfl rfl)
theorem dX1_level_73 : decode cX1_level 73 = .ok (.getfield 22, 3) := dk_180 0 22 (dk_at dksX1_level_3 1 rfl rfl)
theorem dX1_level_76 : decode cX1_level 76 = .ok (.getfield 379, 3) := dk_180 1 123 (dk_at dksX1_level_3 4 rfl rfl)
theorem dX1_level_79 : decode cX1_level 79 = .ok (.iload_n 1, 1) := dk_27 (dk_at dksX1_level_3 7 rfl rfl)
theorem dX1_level_80 : decode cX1_level 80 = .ok (.iastore, 1) := dk_79 (dk_at dksX1_level_3 8 rfl rfl)
theorem dX1_level_81 : decode cX1_level 81 = .ok (.aload_n 0, 1) := dk_42 (dk_at dksX1_level_3 9 rfl rfl)
theorem dX1_level_82 : decode cX1_level 82 = .ok (.getfield 22, 3) := dk_180 0 22 (dk_at dksX1_level_3 10 rfl rfl)
theorem dX1_level_85 : decode cX1_level 85 = .ok (.dup, 1) := dk_89 (dk_at dksX1_level_3 13 rfl rfl)
theorem dX1_level_86 : decode cX1_level 86 = .ok (.getfield 379, 3) := dk_180 1 123 (dk_at dksX1_level_3 14 rfl rfl)
theorem dX1_level_89 : decode cX1_level 89 = .ok (.iconst 1, 1) := dk_4 (dk_at dksX1_level_3 17 rfl rfl)
theorem dX1_level_90 : decode cX1_level 90 = .ok (.iadd, 1) := dk_96 (dk_at dksX1_level_3 18 rfl rfl)
theorem dX1_level_91 : decode cX1_level 91 = .ok (.putfield 379, 3) := dk_181 1 123 (dk_at dksX1_level_3 19 rfl rfl)
theorem dX1_level_94 : decode cX1_level 94 = .ok (.aload_n 0, 1) := dk_42 (dk_at dksX1_level_3 22 rfl rfl)
theorem dX1_level_95 : decode cX1_level 95 = .ok (.getfield 22, 3) := dk_180 0 22 (dk_at dksX1_level_4 0 rfl rfl)
theorem dX1_level_98 : decode cX1_level 98 = .ok (.getfield 379, 3) := dk_180 1 123 (dk_at dksX1_level_4 3 rfl rfl)
theorem dX1_level_101 : decode cX1_level 101 = .ok (.iconst 1, 1) := dk_4 (dk_at dksX1_level_4 6 rfl rfl)
theorem dX1_level_102 : decode cX1_level 102 = .ok (.isub, 1) := dk_100 (dk_at dksX1_level_4 7 rfl rfl)
theorem dX1_level_103 : decode cX1_level 103 = .ok (.ireturn, 1) := dk_172 (dk_at dksX1_level_4 8 rfl rfl)
abbrev cX1_gain : ByteArray := prog_1_method_45_code
def yX1_gain : MethodName := ⟨RX1, "gain", "(IIIIZ)I"⟩
def dkwX1_gain_2 : List UInt8 := [21, 4, 46, 172]
abbrev dktX1_gain_2 : List UInt8 := dkwX1_gain_2 ++ []
def dkwX1_gain_1 : List UInt8 := [21, 5, 153, 0, 15, 42, 180, 0, 71, 29, 50, 21, 4, 46, 167, 0, 12, 42, 180, 0, 68, 29, 50]
abbrev dktX1_gain_1 : List UInt8 := dkwX1_gain_1 ++ dktX1_gain_2
def dkwX1_gain_0 : List UInt8 := [42, 27, 28, 182, 1, 132, 42, 29, 182, 1, 136, 42, 21, 4, 182, 1, 136, 42, 27, 28, 182, 1, 139]
abbrev dktX1_gain_0 : List UInt8 := dkwX1_gain_0 ++ dktX1_gain_1
theorem dksX1_gain_0 : cX1_gain.data.toList.drop 0 = dktX1_gain_0 := by decide +kernel
theorem dksX1_gain_1 : cX1_gain.data.toList.drop 23 = dktX1_gain_1 := dk_seg dksX1_gain_0 23 rfl rfl
theorem dksX1_gain_2 : cX1_gain.data.toList.drop 46 = dktX1_gain_2 := dk_seg dksX1_gain_1 23 rfl rfl
theorem dX1_gain_0 : decode cX1_gain 0 = .ok (.aload_n 0, 1) := dk_42 (dk_at dksX1_gain_0 0 rfl rfl)
theorem dX1_gain_1 : decode cX1_gain 1 = .ok (.iload_n 1, 1) := dk_27 (dk_at dksX1_gain_0 1 rfl rfl)
theorem dX1_gain_2 : decode cX1_gain 2 = .ok (.iload_n 2, 1) := dk_28 (dk_at dksX1_gain_0 2 rfl rfl)
theorem dX1_gain_3 : decode cX1_gain 3 = .ok (.invokevirtual 388, 3) := dk_182 1 132 (dk_at dksX1_gain_0 3 rfl rfl)
theorem dX1_gain_6 : decode cX1_gain 6 = .ok (.aload_n 0, 1) := dk_42 (dk_at dksX1_gain_0 6 rfl rfl)
theorem dX1_gain_7 : decode cX1_gain 7 = .ok (.iload_n 3, 1) := dk_29 (dk_at dksX1_gain_0 7 rfl rfl)
theorem dX1_gain_8 : decode cX1_gain 8 = .ok (.invokevirtual 392, 3) := dk_182 1 136 (dk_at dksX1_gain_0 8 rfl rfl)
theorem dX1_gain_11 : decode cX1_gain 11 = .ok (.aload_n 0, 1) := dk_42 (dk_at dksX1_gain_0 11 rfl rfl)
theorem dX1_gain_12 : decode cX1_gain 12 = .ok (.iload 4, 2) := dk_21 4 (dk_at dksX1_gain_0 12 rfl rfl)
theorem dX1_gain_14 : decode cX1_gain 14 = .ok (.invokevirtual 392, 3) := dk_182 1 136 (dk_at dksX1_gain_0 14 rfl rfl)
theorem dX1_gain_17 : decode cX1_gain 17 = .ok (.aload_n 0, 1) := dk_42 (dk_at dksX1_gain_0 17 rfl rfl)
theorem dX1_gain_18 : decode cX1_gain 18 = .ok (.iload_n 1, 1) := dk_27 (dk_at dksX1_gain_0 18 rfl rfl)
theorem dX1_gain_19 : decode cX1_gain 19 = .ok (.iload_n 2, 1) := dk_28 (dk_at dksX1_gain_0 19 rfl rfl)
theorem dX1_gain_20 : decode cX1_gain 20 = .ok (.invokevirtual 395, 3) := dk_182 1 139 (dk_at dksX1_gain_0 20 rfl rfl)
theorem dX1_gain_23 : decode cX1_gain 23 = .ok (.iload 5, 2) := dk_21 5 (dk_at dksX1_gain_1 0 rfl rfl)
theorem dX1_gain_25 : decode cX1_gain 25 = .ok (.ifCond .eq 15, 3) := dk_153 0 15 (dk_at dksX1_gain_1 2 rfl rfl)
theorem dX1_gain_28 : decode cX1_gain 28 = .ok (.aload_n 0, 1) := dk_42 (dk_at dksX1_gain_1 5 rfl rfl)
theorem dX1_gain_29 : decode cX1_gain 29 = .ok (.getfield 71, 3) := dk_180 0 71 (dk_at dksX1_gain_1 6 rfl rfl)
theorem dX1_gain_32 : decode cX1_gain 32 = .ok (.iload_n 3, 1) := dk_29 (dk_at dksX1_gain_1 9 rfl rfl)
theorem dX1_gain_33 : decode cX1_gain 33 = .ok (.aaload, 1) := dk_50 (dk_at dksX1_gain_1 10 rfl rfl)
theorem dX1_gain_34 : decode cX1_gain 34 = .ok (.iload 4, 2) := dk_21 4 (dk_at dksX1_gain_1 11 rfl rfl)
theorem dX1_gain_36 : decode cX1_gain 36 = .ok (.iaload, 1) := dk_46 (dk_at dksX1_gain_1 13 rfl rfl)
theorem dX1_gain_37 : decode cX1_gain 37 = .ok (.goto 12, 3) := dk_167 0 12 (dk_at dksX1_gain_1 14 rfl rfl)
theorem dX1_gain_40 : decode cX1_gain 40 = .ok (.aload_n 0, 1) := dk_42 (dk_at dksX1_gain_1 17 rfl rfl)
theorem dX1_gain_41 : decode cX1_gain 41 = .ok (.getfield 68, 3) := dk_180 0 68 (dk_at dksX1_gain_1 18 rfl rfl)
theorem dX1_gain_44 : decode cX1_gain 44 = .ok (.iload_n 3, 1) := dk_29 (dk_at dksX1_gain_1 21 rfl rfl)
theorem dX1_gain_45 : decode cX1_gain 45 = .ok (.aaload, 1) := dk_50 (dk_at dksX1_gain_1 22 rfl rfl)
theorem dX1_gain_46 : decode cX1_gain 46 = .ok (.iload 4, 2) := dk_21 4 (dk_at dksX1_gain_2 0 rfl rfl)
theorem dX1_gain_48 : decode cX1_gain 48 = .ok (.iaload, 1) := dk_46 (dk_at dksX1_gain_2 2 rfl rfl)
theorem dX1_gain_49 : decode cX1_gain 49 = .ok (.ireturn, 1) := dk_172 (dk_at dksX1_gain_2 3 rfl rfl)
abbrev cX1_mustBeTwo : ByteArray := prog_1_method_42_code
def yX1_mustBeTwo : MethodName := ⟨RX1, "mustBeTwo", "(II)V"⟩
def dkwX1_mustBeTwo_1 : List UInt8 := [184, 0, 143, 177]
abbrev dktX1_mustBeTwo_1 : List UInt8 := dkwX1_mustBeTwo_1 ++ []
def dkwX1_mustBeTwo_0 : List UInt8 := [42, 27, 182, 0, 153, 87, 42, 28, 182, 0, 153, 87, 27, 28, 159, 0, 7, 4, 167, 0, 4, 3]
abbrev dktX1_mustBeTwo_0 : List UInt8 := dkwX1_mustBeTwo_0 ++ dktX1_mustBeTwo_1
theorem dksX1_mustBeTwo_0 : cX1_mustBeTwo.data.toList.drop 0 = dktX1_mustBeTwo_0 := by decide +kernel
theorem dksX1_mustBeTwo_1 : cX1_mustBeTwo.data.toList.drop 22 = dktX1_mustBeTwo_1 := dk_seg dksX1_mustBeTwo_0 22 rfl rfl
theorem dX1_mustBeTwo_0 : decode cX1_mustBeTwo 0 = .ok (.aload_n 0, 1) := dk_42 (dk_at dksX1_mustBeTwo_0 0 rfl rfl)
theorem dX1_mustBeTwo_1 : decode cX1_mustBeTwo 1 = .ok (.iload_n 1, 1) := dk_27 (dk_at dksX1_mustBeTwo_0 1 rfl rfl)
theorem dX1_mustBeTwo_2 : decode cX1_mustBeTwo 2 = .ok (.invokevirtual 153, 3) := dk_182 0 153 (dk_at dksX1_mustBeTwo_0 2 rfl rfl)
theorem dX1_mustBeTwo_5 : decode cX1_mustBeTwo 5 = .ok (.pop, 1) := dk_87 (dk_at dksX1_mustBeTwo_0 5 rfl rfl)
theorem dX1_mustBeTwo_6 : decode cX1_mustBeTwo 6 = .ok (.aload_n 0, 1) := dk_42 (dk_at dksX1_mustBeTwo_0 6 rfl rfl)
theorem dX1_mustBeTwo_7 : decode cX1_mustBeTwo 7 = .ok (.iload_n 2, 1) := dk_28 (dk_at dksX1_mustBeTwo_0 7 rfl rfl)
theorem dX1_mustBeTwo_8 : decode cX1_mustBeTwo 8 = .ok (.invokevirtual 153, 3) := dk_182 0 153 (dk_at dksX1_mustBeTwo_0 8 rfl rfl)
theorem dX1_mustBeTwo_11 : decode cX1_mustBeTwo 11 = .ok (.pop, 1) := dk_87 (dk_at dksX1_mustBeTwo_0 11 rfl rfl)
theorem dX1_mustBeTwo_12 : decode cX1_mustBeTwo 12 = .ok (.iload_n 1, 1) := dk_27 (dk_at dksX1_mustBeTwo_0 12 rfl rfl)
theorem dX1_mustBeTwo_13 : decode cX1_mustBeTwo 13 = .ok (.iload_n 2, 1) := dk_28 (dk_at dksX1_mustBeTwo_0 13 rfl rfl)
theorem dX1_mustBeTwo_14 : decode cX1_mustBeTwo 14 = .ok (.if_icmp .eq 7, 3) := dk_159 0 7 (dk_at dksX1_mustBeTwo_0 14 rfl rfl)
theorem dX1_mustBeTwo_17 : decode cX1_mustBeTwo 17 = .ok (.iconst 1, 1) := dk_4 (dk_at dksX1_mustBeTwo_0 17 rfl rfl)
theorem dX1_mustBeTwo_18 : decode cX1_mustBeTwo 18 = .ok (.goto 4, 3) := dk_167 0 4 (dk_at dksX1_mustBeTwo_0 18 rfl rfl)
theorem dX1_mustBeTwo_21 : decode cX1_mustBeTwo 21 = .ok (.iconst 0, 1) := dk_3 (dk_at dksX1_mustBeTwo_0 21 rfl rfl)
theorem dX1_mustBeTwo_22 : decode cX1_mustBeTwo 22 = .ok (.invokestatic 143, 3) := dk_184 0 143 (dk_at dksX1_mustBeTwo_1 0 rfl rfl)
theorem dX1_mustBeTwo_25 : decode cX1_mustBeTwo 25 = .ok (.return_, 1) := dk_177 (dk_at dksX1_mustBeTwo_1 3 rfl rfl)
abbrev cX1_mustBeLevel : ByteArray := prog_1_method_43_code
def yX1_mustBeLevel : MethodName := ⟨RX1, "mustBeLevel", "(I)V"⟩
def dkwX1_mustBeLevel_0 : List UInt8 := [27, 133, 9, 42, 180, 0, 22, 180, 1, 123, 4, 100, 133, 184, 0, 106, 184, 1, 129, 177]
abbrev dktX1_mustBeLevel_0 : List UInt8 := dkwX1_mustBeLevel_0 ++ []
theorem dksX1_mustBeLevel_0 : cX1_mustBeLevel.data.toList.drop 0 = dktX1_mustBeLevel_0 := by decide +kernel
theorem dX1_mustBeLevel_0 : decode cX1_mustBeLevel 0 = .ok (.iload_n 1, 1) := dk_27 (dk_at dksX1_mustBeLevel_0 0 rfl rfl)
theorem dX1_mustBeLevel_1 : decode cX1_mustBeLevel 1 = .ok (.i2l, 1) := dk_133 (dk_at dksX1_mustBeLevel_0 1 rfl rfl)
theorem dX1_mustBeLevel_2 : decode cX1_mustBeLevel 2 = .ok (.lconst 0, 1) := dk_9 (dk_at dksX1_mustBeLevel_0 2 rfl rfl)
theorem dX1_mustBeLevel_3 : decode cX1_mustBeLevel 3 = .ok (.aload_n 0, 1) := dk_42 (dk_at dksX1_mustBeLevel_0 3 rfl rfl)
theorem dX1_mustBeLevel_4 : decode cX1_mustBeLevel 4 = .ok (.getfield 22, 3) := dk_180 0 22 (dk_at dksX1_mustBeLevel_0 4 rfl rfl)
theorem dX1_mustBeLevel_7 : decode cX1_mustBeLevel 7 = .ok (.getfield 379, 3) := dk_180 1 123 (dk_at dksX1_mustBeLevel_0 7 rfl rfl)
theorem dX1_mustBeLevel_10 : decode cX1_mustBeLevel 10 = .ok (.iconst 1, 1) := dk_4 (dk_at dksX1_mustBeLevel_0 10 rfl rfl)
theorem dX1_mustBeLevel_11 : decode cX1_mustBeLevel 11 = .ok (.isub, 1) := dk_100 (dk_at dksX1_mustBeLevel_0 11 rfl rfl)
theorem dX1_mustBeLevel_12 : decode cX1_mustBeLevel 12 = .ok (.i2l, 1) := dk_133 (dk_at dksX1_mustBeLevel_0 12 rfl rfl)
theorem dX1_mustBeLevel_13 : decode cX1_mustBeLevel 13 = .ok (.invokestatic 106, 3) := dk_184 0 106 (dk_at dksX1_mustBeLevel_0 13 rfl rfl)
theorem dX1_mustBeLevel_16 : decode cX1_mustBeLevel 16 = .ok (.invokestatic 385, 3) := dk_184 1 129 (dk_at dksX1_mustBeLevel_0 16 rfl rfl)
theorem dX1_mustBeLevel_19 : decode cX1_mustBeLevel 19 = .ok (.return_, 1) := dk_177 (dk_at dksX1_mustBeLevel_0 19 rfl rfl)
abbrev cX1_within : ByteArray := prog_1_method_6_code
def yX1_within : MethodName := ⟨RX1, "within", "(Z)V"⟩
def dkwX1_within_0 : List UInt8 := [26, 154, 0, 11, 187, 0, 13, 89, 183, 0, 15, 191, 177]
abbrev dktX1_within_0 : List UInt8 := dkwX1_within_0 ++ []
theorem dksX1_within_0 : cX1_within.data.toList.drop 0 = dktX1_within_0 := by decide +kernel
theorem dX1_within_0 : decode cX1_within 0 = .ok (.iload_n 0, 1) := dk_26 (dk_at dksX1_within_0 0 rfl rfl)
theorem dX1_within_1 : decode cX1_within 1 = .ok (.ifCond .ne 11, 3) := dk_154 0 11 (dk_at dksX1_within_0 1 rfl rfl)
theorem dX1_within_4 : decode cX1_within 4 = .ok (.new 13, 3) := dk_187 0 13 (dk_at dksX1_within_0 4 rfl rfl)
theorem dX1_within_7 : decode cX1_within 7 = .ok (.dup, 1) := dk_89 (dk_at dksX1_within_0 7 rfl rfl)
theorem dX1_within_8 : decode cX1_within 8 = .ok (.invokespecial 15, 3) := dk_183 0 15 (dk_at dksX1_within_0 8 rfl rfl)
theorem dX1_within_11 : decode cX1_within 11 = .ok (.athrow, 1) := dk_191 (dk_at dksX1_within_0 11 rfl rfl)
theorem dX1_within_12 : decode cX1_within 12 = .ok (.return_, 1) := dk_177 (dk_at dksX1_within_0 12 rfl rfl)
abbrev cX1_laysGame : ByteArray := prog_1_method_44_code
def yX1_laysGame : MethodName := ⟨RX1, "laysGame", "(II)V"⟩
def dkwX1_laysGame_9 : List UInt8 := [132, 5, 1, 167, 255, 127, 132, 4, 1, 167, 255, 55, 132, 3, 1, 167, 255, 35, 177]
abbrev dktX1_laysGame_9 : List UInt8 := dkwX1_laysGame_9 ++ []
def dkwX1_laysGame_8 : List UInt8 := [180, 0, 71, 29, 50, 21, 4, 92, 46, 21, 7, 28, 160, 0, 8, 21, 8, 167, 0, 4, 3, 96, 79]
abbrev dktX1_laysGame_8 : List UInt8 := dkwX1_laysGame_8 ++ dktX1_laysGame_9
def dkwX1_laysGame_7 : List UInt8 := [180, 0, 68, 29, 50, 21, 4, 92, 46, 21, 7, 27, 160, 0, 8, 21, 8, 167, 0, 4, 3, 96, 79, 42]
abbrev dktX1_laysGame_7 : List UInt8 := dkwX1_laysGame_7 ++ dktX1_laysGame_8
def dkwX1_laysGame_6 : List UInt8 := [180, 0, 22, 180, 0, 114, 21, 7, 182, 0, 118, 192, 0, 124, 180, 0, 170, 100, 104, 54, 8, 42]
abbrev dktX1_laysGame_6 : List UInt8 := dkwX1_laysGame_6 ++ dktX1_laysGame_7
def dkwX1_laysGame_5 : List UInt8 := [25, 6, 42, 180, 0, 63, 182, 1, 52, 54, 7, 25, 6, 180, 1, 60, 42, 180, 0, 63, 21, 7, 46, 42]
abbrev dktX1_laysGame_5 : List UInt8 := dkwX1_laysGame_5 ++ dktX1_laysGame_6
def dkwX1_laysGame_4 : List UInt8 := [182, 0, 162, 162, 0, 120, 42, 180, 0, 22, 180, 0, 159, 21, 5, 182, 0, 118, 192, 0, 165, 58, 6, 42]
abbrev dktX1_laysGame_4 : List UInt8 := dkwX1_laysGame_4 ++ dktX1_laysGame_5
def dkwX1_laysGame_3 : List UInt8 := [3, 79, 42, 180, 0, 71, 29, 50, 21, 4, 3, 79, 3, 54, 5, 21, 5, 42, 180, 0, 22, 180, 0, 159]
abbrev dktX1_laysGame_3 : List UInt8 := dkwX1_laysGame_3 ++ dktX1_laysGame_4
def dkwX1_laysGame_2 : List UInt8 := [42, 180, 0, 63, 28, 42, 180, 0, 22, 180, 1, 126, 21, 4, 46, 79, 42, 180, 0, 68, 29, 50, 21, 4]
abbrev dktX1_laysGame_2 : List UInt8 := dkwX1_laysGame_2 ++ dktX1_laysGame_3
def dkwX1_laysGame_1 : List UInt8 := [180, 0, 22, 180, 1, 123, 162, 0, 195, 42, 180, 0, 63, 27, 42, 180, 0, 22, 180, 1, 126, 29, 46, 79]
abbrev dktX1_laysGame_1 : List UInt8 := dkwX1_laysGame_1 ++ dktX1_laysGame_2
def dkwX1_laysGame_0 : List UInt8 := [42, 182, 1, 80, 3, 62, 29, 42, 180, 0, 22, 180, 1, 123, 162, 0, 216, 3, 54, 4, 21, 4, 42]
abbrev dktX1_laysGame_0 : List UInt8 := dkwX1_laysGame_0 ++ dktX1_laysGame_1
theorem dksX1_laysGame_0 : cX1_laysGame.data.toList.drop 0 = dktX1_laysGame_0 := by decide +kernel
theorem dksX1_laysGame_1 : cX1_laysGame.data.toList.drop 23 = dktX1_laysGame_1 := dk_seg dksX1_laysGame_0 23 rfl rfl
theorem dksX1_laysGame_2 : cX1_laysGame.data.toList.drop 47 = dktX1_laysGame_2 := dk_seg dksX1_laysGame_1 24 rfl rfl
theorem dksX1_laysGame_3 : cX1_laysGame.data.toList.drop 71 = dktX1_laysGame_3 := dk_seg dksX1_laysGame_2 24 rfl rfl
theorem dksX1_laysGame_4 : cX1_laysGame.data.toList.drop 95 = dktX1_laysGame_4 := dk_seg dksX1_laysGame_3 24 rfl rfl
theorem dksX1_laysGame_5 : cX1_laysGame.data.toList.drop 119 = dktX1_laysGame_5 := dk_seg dksX1_laysGame_4 24 rfl rfl
theorem dksX1_laysGame_6 : cX1_laysGame.data.toList.drop 143 = dktX1_laysGame_6 := dk_seg dksX1_laysGame_5 24 rfl rfl
theorem dksX1_laysGame_7 : cX1_laysGame.data.toList.drop 165 = dktX1_laysGame_7 := dk_seg dksX1_laysGame_6 22 rfl rfl
theorem dksX1_laysGame_8 : cX1_laysGame.data.toList.drop 189 = dktX1_laysGame_8 := dk_seg dksX1_laysGame_7 24 rfl rfl
theorem dksX1_laysGame_9 : cX1_laysGame.data.toList.drop 212 = dktX1_laysGame_9 := dk_seg dksX1_laysGame_8 23 rfl rfl
theorem dX1_laysGame_0 : decode cX1_laysGame 0 = .ok (.aload_n 0, 1) := dk_42 (dk_at dksX1_laysGame_0 0 rfl rfl)
theorem dX1_laysGame_1 : decode cX1_laysGame 1 = .ok (.invokevirtual 336, 3) := dk_182 1 80 (dk_at dksX1_laysGame_0 1 rfl rfl)
theorem dX1_laysGame_4 : decode cX1_laysGame 4 = .ok (.iconst 0, 1) := dk_3 (dk_at dksX1_laysGame_0 4 rfl rfl)
theorem dX1_laysGame_5 : decode cX1_laysGame 5 = .ok (.istore_n 3, 1) := dk_62 (dk_at dksX1_laysGame_0 5 rfl rfl)
theorem dX1_laysGame_6 : decode cX1_laysGame 6 = .ok (.iload_n 3, 1) := dk_29 (dk_at dksX1_laysGame_0 6 rfl rfl)
theorem dX1_laysGame_7 : decode cX1_laysGame 7 = .ok (.aload_n 0, 1) := dk_42 (dk_at dksX1_laysGame_0 7 rfl rfl)
theorem dX1_laysGame_8 : decode cX1_laysGame 8 = .ok (.getfield 22, 3) := dk_180 0 22 (dk_at dksX1_laysGame_0 8 rfl rfl)
theorem dX1_laysGame_11 : decode cX1_laysGame 11 = .ok (.getfield 379, 3) := dk_180 1 123 (dk_at dksX1_laysGame_0 11 rfl rfl)
theorem dX1_laysGame_14 : decode cX1_laysGame 14 = .ok (.if_icmp .ge 216, 3) := dk_162 0 216 (dk_at dksX1_laysGame_0 14 rfl rfl)
theorem dX1_laysGame_17 : decode cX1_laysGame 17 = .ok (.iconst 0, 1) := dk_3 (dk_at dksX1_laysGame_0 17 rfl rfl)
theorem dX1_laysGame_18 : decode cX1_laysGame 18 = .ok (.istore 4, 2) := dk_54 4 (dk_at dksX1_laysGame_0 18 rfl rfl)
theorem dX1_laysGame_20 : decode cX1_laysGame 20 = .ok (.iload 4, 2) := dk_21 4 (dk_at dksX1_laysGame_0 20 rfl rfl)
theorem dX1_laysGame_22 : decode cX1_laysGame 22 = .ok (.aload_n 0, 1) := dk_42 (dk_at dksX1_laysGame_0 22 rfl rfl)
theorem dX1_laysGame_23 : decode cX1_laysGame 23 = .ok (.getfield 22, 3) := dk_180 0 22 (dk_at dksX1_laysGame_1 0 rfl rfl)
theorem dX1_laysGame_26 : decode cX1_laysGame 26 = .ok (.getfield 379, 3) := dk_180 1 123 (dk_at dksX1_laysGame_1 3 rfl rfl)
theorem dX1_laysGame_29 : decode cX1_laysGame 29 = .ok (.if_icmp .ge 195, 3) := dk_162 0 195 (dk_at dksX1_laysGame_1 6 rfl rfl)
theorem dX1_laysGame_32 : decode cX1_laysGame 32 = .ok (.aload_n 0, 1) := dk_42 (dk_at dksX1_laysGame_1 9 rfl rfl)
theorem dX1_laysGame_33 : decode cX1_laysGame 33 = .ok (.getfield 63, 3) := dk_180 0 63 (dk_at dksX1_laysGame_1 10 rfl rfl)
theorem dX1_laysGame_36 : decode cX1_laysGame 36 = .ok (.iload_n 1, 1) := dk_27 (dk_at dksX1_laysGame_1 13 rfl rfl)
theorem dX1_laysGame_37 : decode cX1_laysGame 37 = .ok (.aload_n 0, 1) := dk_42 (dk_at dksX1_laysGame_1 14 rfl rfl)
theorem dX1_laysGame_38 : decode cX1_laysGame 38 = .ok (.getfield 22, 3) := dk_180 0 22 (dk_at dksX1_laysGame_1 15 rfl rfl)
theorem dX1_laysGame_41 : decode cX1_laysGame 41 = .ok (.getfield 382, 3) := dk_180 1 126 (dk_at dksX1_laysGame_1 18 rfl rfl)
theorem dX1_laysGame_44 : decode cX1_laysGame 44 = .ok (.iload_n 3, 1) := dk_29 (dk_at dksX1_laysGame_1 21 rfl rfl)
theorem dX1_laysGame_45 : decode cX1_laysGame 45 = .ok (.iaload, 1) := dk_46 (dk_at dksX1_laysGame_1 22 rfl rfl)
theorem dX1_laysGame_46 : decode cX1_laysGame 46 = .ok (.iastore, 1) := dk_79 (dk_at dksX1_laysGame_1 23 rfl rfl)
theorem dX1_laysGame_47 : decode cX1_laysGame 47 = .ok (.aload_n 0, 1) := dk_42 (dk_at dksX1_laysGame_2 0 rfl rfl)
theorem dX1_laysGame_48 : decode cX1_laysGame 48 = .ok (.getfield 63, 3) := dk_180 0 63 (dk_at dksX1_laysGame_2 1 rfl rfl)
theorem dX1_laysGame_51 : decode cX1_laysGame 51 = .ok (.iload_n 2, 1) := dk_28 (dk_at dksX1_laysGame_2 4 rfl rfl)
theorem dX1_laysGame_52 : decode cX1_laysGame 52 = .ok (.aload_n 0, 1) := dk_42 (dk_at dksX1_laysGame_2 5 rfl rfl)
theorem dX1_laysGame_53 : decode cX1_laysGame 53 = .ok (.getfield 22, 3) := dk_180 0 22 (dk_at dksX1_laysGame_2 6 rfl rfl)
theorem dX1_laysGame_56 : decode cX1_laysGame 56 = .ok (.getfield 382, 3) := dk_180 1 126 (dk_at dksX1_laysGame_2 9 rfl rfl)
theorem dX1_laysGame_59 : decode cX1_laysGame 59 = .ok (.iload 4, 2) := dk_21 4 (dk_at dksX1_laysGame_2 12 rfl rfl)
theorem dX1_laysGame_61 : decode cX1_laysGame 61 = .ok (.iaload, 1) := dk_46 (dk_at dksX1_laysGame_2 14 rfl rfl)
theorem dX1_laysGame_62 : decode cX1_laysGame 62 = .ok (.iastore, 1) := dk_79 (dk_at dksX1_laysGame_2 15 rfl rfl)
theorem dX1_laysGame_63 : decode cX1_laysGame 63 = .ok (.aload_n 0, 1) := dk_42 (dk_at dksX1_laysGame_2 16 rfl rfl)
theorem dX1_laysGame_64 : decode cX1_laysGame 64 = .ok (.getfield 68, 3) := dk_180 0 68 (dk_at dksX1_laysGame_2 17 rfl rfl)
theorem dX1_laysGame_67 : decode cX1_laysGame 67 = .ok (.iload_n 3, 1) := dk_29 (dk_at dksX1_laysGame_2 20 rfl rfl)
theorem dX1_laysGame_68 : decode cX1_laysGame 68 = .ok (.aaload, 1) := dk_50 (dk_at dksX1_laysGame_2 21 rfl rfl)
theorem dX1_laysGame_69 : decode cX1_laysGame 69 = .ok (.iload 4, 2) := dk_21 4 (dk_at dksX1_laysGame_2 22 rfl rfl)
theorem dX1_laysGame_71 : decode cX1_laysGame 71 = .ok (.iconst 0, 1) := dk_3 (dk_at dksX1_laysGame_3 0 rfl rfl)
theorem dX1_laysGame_72 : decode cX1_laysGame 72 = .ok (.iastore, 1) := dk_79 (dk_at dksX1_laysGame_3 1 rfl rfl)
theorem dX1_laysGame_73 : decode cX1_laysGame 73 = .ok (.aload_n 0, 1) := dk_42 (dk_at dksX1_laysGame_3 2 rfl rfl)
theorem dX1_laysGame_74 : decode cX1_laysGame 74 = .ok (.getfield 71, 3) := dk_180 0 71 (dk_at dksX1_laysGame_3 3 rfl rfl)
theorem dX1_laysGame_77 : decode cX1_laysGame 77 = .ok (.iload_n 3, 1) := dk_29 (dk_at dksX1_laysGame_3 6 rfl rfl)
theorem dX1_laysGame_78 : decode cX1_laysGame 78 = .ok (.aaload, 1) := dk_50 (dk_at dksX1_laysGame_3 7 rfl rfl)
theorem dX1_laysGame_79 : decode cX1_laysGame 79 = .ok (.iload 4, 2) := dk_21 4 (dk_at dksX1_laysGame_3 8 rfl rfl)
theorem dX1_laysGame_81 : decode cX1_laysGame 81 = .ok (.iconst 0, 1) := dk_3 (dk_at dksX1_laysGame_3 10 rfl rfl)
theorem dX1_laysGame_82 : decode cX1_laysGame 82 = .ok (.iastore, 1) := dk_79 (dk_at dksX1_laysGame_3 11 rfl rfl)
theorem dX1_laysGame_83 : decode cX1_laysGame 83 = .ok (.iconst 0, 1) := dk_3 (dk_at dksX1_laysGame_3 12 rfl rfl)
theorem dX1_laysGame_84 : decode cX1_laysGame 84 = .ok (.istore 5, 2) := dk_54 5 (dk_at dksX1_laysGame_3 13 rfl rfl)
theorem dX1_laysGame_86 : decode cX1_laysGame 86 = .ok (.iload 5, 2) := dk_21 5 (dk_at dksX1_laysGame_3 15 rfl rfl)
theorem dX1_laysGame_88 : decode cX1_laysGame 88 = .ok (.aload_n 0, 1) := dk_42 (dk_at dksX1_laysGame_3 17 rfl rfl)
theorem dX1_laysGame_89 : decode cX1_laysGame 89 = .ok (.getfield 22, 3) := dk_180 0 22 (dk_at dksX1_laysGame_3 18 rfl rfl)
theorem dX1_laysGame_92 : decode cX1_laysGame 92 = .ok (.getfield 159, 3) := dk_180 0 159 (dk_at dksX1_laysGame_3 21 rfl rfl)
theorem dX1_laysGame_95 : decode cX1_laysGame 95 = .ok (.invokevirtual 162, 3) := dk_182 0 162 (dk_at dksX1_laysGame_4 0 rfl rfl)
theorem dX1_laysGame_98 : decode cX1_laysGame 98 = .ok (.if_icmp .ge 120, 3) := dk_162 0 120 (dk_at dksX1_laysGame_4 3 rfl rfl)
theorem dX1_laysGame_101 : decode cX1_laysGame 101 = .ok (.aload_n 0, 1) := dk_42 (dk_at dksX1_laysGame_4 6 rfl rfl)
theorem dX1_laysGame_102 : decode cX1_laysGame 102 = .ok (.getfield 22, 3) := dk_180 0 22 (dk_at dksX1_laysGame_4 7 rfl rfl)
theorem dX1_laysGame_105 : decode cX1_laysGame 105 = .ok (.getfield 159, 3) := dk_180 0 159 (dk_at dksX1_laysGame_4 10 rfl rfl)
theorem dX1_laysGame_108 : decode cX1_laysGame 108 = .ok (.iload 5, 2) := dk_21 5 (dk_at dksX1_laysGame_4 13 rfl rfl)
theorem dX1_laysGame_110 : decode cX1_laysGame 110 = .ok (.invokevirtual 118, 3) := dk_182 0 118 (dk_at dksX1_laysGame_4 15 rfl rfl)
theorem dX1_laysGame_113 : decode cX1_laysGame 113 = .ok (.checkcast 165, 3) := dk_192 0 165 (dk_at dksX1_laysGame_4 18 rfl rfl)
theorem dX1_laysGame_116 : decode cX1_laysGame 116 = .ok (.astore 6, 2) := dk_58 6 (dk_at dksX1_laysGame_4 21 rfl rfl)
theorem dX1_laysGame_118 : decode cX1_laysGame 118 = .ok (.aload_n 0, 1) := dk_42 (dk_at dksX1_laysGame_4 23 rfl rfl)
theorem dX1_laysGame_119 : decode cX1_laysGame 119 = .ok (.aload 6, 2) := dk_25 6 (dk_at dksX1_laysGame_5 0 rfl rfl)
theorem dX1_laysGame_121 : decode cX1_laysGame 121 = .ok (.aload_n 0, 1) := dk_42 (dk_at dksX1_laysGame_5 2 rfl rfl)
theorem dX1_laysGame_122 : decode cX1_laysGame 122 = .ok (.getfield 63, 3) := dk_180 0 63 (dk_at dksX1_laysGame_5 3 rfl rfl)
theorem dX1_laysGame_125 : decode cX1_laysGame 125 = .ok (.invokevirtual 308, 3) := dk_182 1 52 (dk_at dksX1_laysGame_5 6 rfl rfl)
theorem dX1_laysGame_128 : decode cX1_laysGame 128 = .ok (.istore 7, 2) := dk_54 7 (dk_at dksX1_laysGame_5 9 rfl rfl)
theorem dX1_laysGame_130 : decode cX1_laysGame 130 = .ok (.aload 6, 2) := dk_25 6 (dk_at dksX1_laysGame_5 11 rfl rfl)
theorem dX1_laysGame_132 : decode cX1_laysGame 132 = .ok (.getfield 316, 3) := dk_180 1 60 (dk_at dksX1_laysGame_5 13 rfl rfl)
theorem dX1_laysGame_135 : decode cX1_laysGame 135 = .ok (.aload_n 0, 1) := dk_42 (dk_at dksX1_laysGame_5 16 rfl rfl)
theorem dX1_laysGame_136 : decode cX1_laysGame 136 = .ok (.getfield 63, 3) := dk_180 0 63 (dk_at dksX1_laysGame_5 17 rfl rfl)
theorem dX1_laysGame_139 : decode cX1_laysGame 139 = .ok (.iload 7, 2) := dk_21 7 (dk_at dksX1_laysGame_5 20 rfl rfl)
theorem dX1_laysGame_141 : decode cX1_laysGame 141 = .ok (.iaload, 1) := dk_46 (dk_at dksX1_laysGame_5 22 rfl rfl)
theorem dX1_laysGame_142 : decode cX1_laysGame 142 = .ok (.aload_n 0, 1) := dk_42 (dk_at dksX1_laysGame_5 23 rfl rfl)
theorem dX1_laysGame_143 : decode cX1_laysGame 143 = .ok (.getfield 22, 3) := dk_180 0 22 (dk_at dksX1_laysGame_6 0 rfl rfl)
theorem dX1_laysGame_146 : decode cX1_laysGame 146 = .ok (.getfield 114, 3) := dk_180 0 114 (dk_at dksX1_laysGame_6 3 rfl rfl)
theorem dX1_laysGame_149 : decode cX1_laysGame 149 = .ok (.iload 7, 2) := dk_21 7 (dk_at dksX1_laysGame_6 6 rfl rfl)
theorem dX1_laysGame_151 : decode cX1_laysGame 151 = .ok (.invokevirtual 118, 3) := dk_182 0 118 (dk_at dksX1_laysGame_6 8 rfl rfl)
theorem dX1_laysGame_154 : decode cX1_laysGame 154 = .ok (.checkcast 124, 3) := dk_192 0 124 (dk_at dksX1_laysGame_6 11 rfl rfl)
theorem dX1_laysGame_157 : decode cX1_laysGame 157 = .ok (.getfield 170, 3) := dk_180 0 170 (dk_at dksX1_laysGame_6 14 rfl rfl)
theorem dX1_laysGame_160 : decode cX1_laysGame 160 = .ok (.isub, 1) := dk_100 (dk_at dksX1_laysGame_6 17 rfl rfl)
theorem dX1_laysGame_161 : decode cX1_laysGame 161 = .ok (.imul, 1) := dk_104 (dk_at dksX1_laysGame_6 18 rfl rfl)
theorem dX1_laysGame_162 : decode cX1_laysGame 162 = .ok (.istore 8, 2) := dk_54 8 (dk_at dksX1_laysGame_6 19 rfl rfl)
theorem dX1_laysGame_164 : decode cX1_laysGame 164 = .ok (.aload_n 0, 1) := dk_42 (dk_at dksX1_laysGame_6 21 rfl rfl)
theorem dX1_laysGame_165 : decode cX1_laysGame 165 = .ok (.getfield 68, 3) := dk_180 0 68 (dk_at dksX1_laysGame_7 0 rfl rfl)
theorem dX1_laysGame_168 : decode cX1_laysGame 168 = .ok (.iload_n 3, 1) := dk_29 (dk_at dksX1_laysGame_7 3 rfl rfl)
theorem dX1_laysGame_169 : decode cX1_laysGame 169 = .ok (.aaload, 1) := dk_50 (dk_at dksX1_laysGame_7 4 rfl rfl)
theorem dX1_laysGame_170 : decode cX1_laysGame 170 = .ok (.iload 4, 2) := dk_21 4 (dk_at dksX1_laysGame_7 5 rfl rfl)
theorem dX1_laysGame_172 : decode cX1_laysGame 172 = .ok (.dup2, 1) := dk_92 (dk_at dksX1_laysGame_7 7 rfl rfl)
theorem dX1_laysGame_173 : decode cX1_laysGame 173 = .ok (.iaload, 1) := dk_46 (dk_at dksX1_laysGame_7 8 rfl rfl)
theorem dX1_laysGame_174 : decode cX1_laysGame 174 = .ok (.iload 7, 2) := dk_21 7 (dk_at dksX1_laysGame_7 9 rfl rfl)
theorem dX1_laysGame_176 : decode cX1_laysGame 176 = .ok (.iload_n 1, 1) := dk_27 (dk_at dksX1_laysGame_7 11 rfl rfl)
theorem dX1_laysGame_177 : decode cX1_laysGame 177 = .ok (.if_icmp .ne 8, 3) := dk_160 0 8 (dk_at dksX1_laysGame_7 12 rfl rfl)
theorem dX1_laysGame_180 : decode cX1_laysGame 180 = .ok (.iload 8, 2) := dk_21 8 (dk_at dksX1_laysGame_7 15 rfl rfl)
theorem dX1_laysGame_182 : decode cX1_laysGame 182 = .ok (.goto 4, 3) := dk_167 0 4 (dk_at dksX1_laysGame_7 17 rfl rfl)
theorem dX1_laysGame_185 : decode cX1_laysGame 185 = .ok (.iconst 0, 1) := dk_3 (dk_at dksX1_laysGame_7 20 rfl rfl)
theorem dX1_laysGame_186 : decode cX1_laysGame 186 = .ok (.iadd, 1) := dk_96 (dk_at dksX1_laysGame_7 21 rfl rfl)
theorem dX1_laysGame_187 : decode cX1_laysGame 187 = .ok (.iastore, 1) := dk_79 (dk_at dksX1_laysGame_7 22 rfl rfl)
theorem dX1_laysGame_188 : decode cX1_laysGame 188 = .ok (.aload_n 0, 1) := dk_42 (dk_at dksX1_laysGame_7 23 rfl rfl)
theorem dX1_laysGame_189 : decode cX1_laysGame 189 = .ok (.getfield 71, 3) := dk_180 0 71 (dk_at dksX1_laysGame_8 0 rfl rfl)
theorem dX1_laysGame_192 : decode cX1_laysGame 192 = .ok (.iload_n 3, 1) := dk_29 (dk_at dksX1_laysGame_8 3 rfl rfl)
theorem dX1_laysGame_193 : decode cX1_laysGame 193 = .ok (.aaload, 1) := dk_50 (dk_at dksX1_laysGame_8 4 rfl rfl)
theorem dX1_laysGame_194 : decode cX1_laysGame 194 = .ok (.iload 4, 2) := dk_21 4 (dk_at dksX1_laysGame_8 5 rfl rfl)
theorem dX1_laysGame_196 : decode cX1_laysGame 196 = .ok (.dup2, 1) := dk_92 (dk_at dksX1_laysGame_8 7 rfl rfl)
theorem dX1_laysGame_197 : decode cX1_laysGame 197 = .ok (.iaload, 1) := dk_46 (dk_at dksX1_laysGame_8 8 rfl rfl)
theorem dX1_laysGame_198 : decode cX1_laysGame 198 = .ok (.iload 7, 2) := dk_21 7 (dk_at dksX1_laysGame_8 9 rfl rfl)
theorem dX1_laysGame_200 : decode cX1_laysGame 200 = .ok (.iload_n 2, 1) := dk_28 (dk_at dksX1_laysGame_8 11 rfl rfl)
theorem dX1_laysGame_201 : decode cX1_laysGame 201 = .ok (.if_icmp .ne 8, 3) := dk_160 0 8 (dk_at dksX1_laysGame_8 12 rfl rfl)
theorem dX1_laysGame_204 : decode cX1_laysGame 204 = .ok (.iload 8, 2) := dk_21 8 (dk_at dksX1_laysGame_8 15 rfl rfl)
theorem dX1_laysGame_206 : decode cX1_laysGame 206 = .ok (.goto 4, 3) := dk_167 0 4 (dk_at dksX1_laysGame_8 17 rfl rfl)
theorem dX1_laysGame_209 : decode cX1_laysGame 209 = .ok (.iconst 0, 1) := dk_3 (dk_at dksX1_laysGame_8 20 rfl rfl)
theorem dX1_laysGame_210 : decode cX1_laysGame 210 = .ok (.iadd, 1) := dk_96 (dk_at dksX1_laysGame_8 21 rfl rfl)
theorem dX1_laysGame_211 : decode cX1_laysGame 211 = .ok (.iastore, 1) := dk_79 (dk_at dksX1_laysGame_8 22 rfl rfl)
theorem dX1_laysGame_212 : decode cX1_laysGame 212 = .ok (.iinc 5 1, 3) := dk_132 5 1 (dk_at dksX1_laysGame_9 0 rfl rfl)
theorem dX1_laysGame_215 : decode cX1_laysGame 215 = .ok (.goto (-129), 3) := dk_167 255 127 (dk_at dksX1_laysGame_9 3 rfl rfl)
theorem dX1_laysGame_218 : decode cX1_laysGame 218 = .ok (.iinc 4 1, 3) := dk_132 4 1 (dk_at dksX1_laysGame_9 6 rfl rfl)
theorem dX1_laysGame_221 : decode cX1_laysGame 221 = .ok (.goto (-201), 3) := dk_167 255 55 (dk_at dksX1_laysGame_9 9 rfl rfl)
theorem dX1_laysGame_224 : decode cX1_laysGame 224 = .ok (.iinc 3 1, 3) := dk_132 3 1 (dk_at dksX1_laysGame_9 12 rfl rfl)
theorem dX1_laysGame_227 : decode cX1_laysGame 227 = .ok (.goto (-221), 3) := dk_167 255 35 (dk_at dksX1_laysGame_9 15 rfl rfl)
theorem dX1_laysGame_230 : decode cX1_laysGame 230 = .ok (.return_, 1) := dk_177 (dk_at dksX1_laysGame_9 18 rfl rfl)
abbrev cX1_reply : ByteArray := prog_1_method_47_code
def yX1_reply : MethodName := ⟨RX1, "reply", "(III)I"⟩
def dkwX1_reply_0 : List UInt8 := [42, 27, 28, 182, 1, 132, 42, 29, 182, 1, 136, 42, 27, 28, 182, 1, 139, 42, 29, 182, 1, 142, 172]
abbrev dktX1_reply_0 : List UInt8 := dkwX1_reply_0 ++ []
theorem dksX1_reply_0 : cX1_reply.data.toList.drop 0 = dktX1_reply_0 := by decide +kernel
theorem dX1_reply_0 : decode cX1_reply 0 = .ok (.aload_n 0, 1) := dk_42 (dk_at dksX1_reply_0 0 rfl rfl)
theorem dX1_reply_1 : decode cX1_reply 1 = .ok (.iload_n 1, 1) := dk_27 (dk_at dksX1_reply_0 1 rfl rfl)
theorem dX1_reply_2 : decode cX1_reply 2 = .ok (.iload_n 2, 1) := dk_28 (dk_at dksX1_reply_0 2 rfl rfl)
theorem dX1_reply_3 : decode cX1_reply 3 = .ok (.invokevirtual 388, 3) := dk_182 1 132 (dk_at dksX1_reply_0 3 rfl rfl)
theorem dX1_reply_6 : decode cX1_reply 6 = .ok (.aload_n 0, 1) := dk_42 (dk_at dksX1_reply_0 6 rfl rfl)
theorem dX1_reply_7 : decode cX1_reply 7 = .ok (.iload_n 3, 1) := dk_29 (dk_at dksX1_reply_0 7 rfl rfl)
theorem dX1_reply_8 : decode cX1_reply 8 = .ok (.invokevirtual 392, 3) := dk_182 1 136 (dk_at dksX1_reply_0 8 rfl rfl)
theorem dX1_reply_11 : decode cX1_reply 11 = .ok (.aload_n 0, 1) := dk_42 (dk_at dksX1_reply_0 11 rfl rfl)
theorem dX1_reply_12 : decode cX1_reply 12 = .ok (.iload_n 1, 1) := dk_27 (dk_at dksX1_reply_0 12 rfl rfl)
theorem dX1_reply_13 : decode cX1_reply 13 = .ok (.iload_n 2, 1) := dk_28 (dk_at dksX1_reply_0 13 rfl rfl)
theorem dX1_reply_14 : decode cX1_reply 14 = .ok (.invokevirtual 395, 3) := dk_182 1 139 (dk_at dksX1_reply_0 14 rfl rfl)
theorem dX1_reply_17 : decode cX1_reply 17 = .ok (.aload_n 0, 1) := dk_42 (dk_at dksX1_reply_0 17 rfl rfl)
theorem dX1_reply_18 : decode cX1_reply 18 = .ok (.iload_n 3, 1) := dk_29 (dk_at dksX1_reply_0 18 rfl rfl)
theorem dX1_reply_19 : decode cX1_reply 19 = .ok (.invokevirtual 398, 3) := dk_182 1 142 (dk_at dksX1_reply_0 19 rfl rfl)
theorem dX1_reply_22 : decode cX1_reply 22 = .ok (.ireturn, 1) := dk_172 (dk_at dksX1_reply_0 22 rfl rfl)
abbrev cX1_replyOf : ByteArray := prog_1_method_46_code
def yX1_replyOf : MethodName := ⟨RX1, "replyOf", "(I)I"⟩
def dkwX1_replyOf_1 : List UInt8 := [180, 0, 68, 28, 50, 27, 46, 164, 0, 5, 29, 61, 132, 3, 1, 167, 255, 221, 28, 172]
abbrev dktX1_replyOf_1 : List UInt8 := dkwX1_replyOf_1 ++ []
def dkwX1_replyOf_0 : List UInt8 := [3, 61, 4, 62, 29, 42, 180, 0, 22, 180, 1, 123, 162, 0, 30, 42, 180, 0, 68, 29, 50, 27, 46, 42]
abbrev dktX1_replyOf_0 : List UInt8 := dkwX1_replyOf_0 ++ dktX1_replyOf_1
theorem dksX1_replyOf_0 : cX1_replyOf.data.toList.drop 0 = dktX1_replyOf_0 := by decide +kernel
theorem dksX1_replyOf_1 : cX1_replyOf.data.toList.drop 24 = dktX1_replyOf_1 := dk_seg dksX1_replyOf_0 24 rfl rfl
theorem dX1_replyOf_0 : decode cX1_replyOf 0 = .ok (.iconst 0, 1) := dk_3 (dk_at dksX1_replyOf_0 0 rfl rfl)
theorem dX1_replyOf_1 : decode cX1_replyOf 1 = .ok (.istore_n 2, 1) := dk_61 (dk_at dksX1_replyOf_0 1 rfl rfl)
theorem dX1_replyOf_2 : decode cX1_replyOf 2 = .ok (.iconst 1, 1) := dk_4 (dk_at dksX1_replyOf_0 2 rfl rfl)
theorem dX1_replyOf_3 : decode cX1_replyOf 3 = .ok (.istore_n 3, 1) := dk_62 (dk_at dksX1_replyOf_0 3 rfl rfl)
theorem dX1_replyOf_4 : decode cX1_replyOf 4 = .ok (.iload_n 3, 1) := dk_29 (dk_at dksX1_replyOf_0 4 rfl rfl)
theorem dX1_replyOf_5 : decode cX1_replyOf 5 = .ok (.aload_n 0, 1) := dk_42 (dk_at dksX1_replyOf_0 5 rfl rfl)
theorem dX1_replyOf_6 : decode cX1_replyOf 6 = .ok (.getfield 22, 3) := dk_180 0 22 (dk_at dksX1_replyOf_0 6 rfl rfl)
theorem dX1_replyOf_9 : decode cX1_replyOf 9 = .ok (.getfield 379, 3) := dk_180 1 123 (dk_at dksX1_replyOf_0 9 rfl rfl)
theorem dX1_replyOf_12 : decode cX1_replyOf 12 = .ok (.if_icmp .ge 30, 3) := dk_162 0 30 (dk_at dksX1_replyOf_0 12 rfl rfl)
theorem dX1_replyOf_15 : decode cX1_replyOf 15 = .ok (.aload_n 0, 1) := dk_42 (dk_at dksX1_replyOf_0 15 rfl rfl)
theorem dX1_replyOf_16 : decode cX1_replyOf 16 = .ok (.getfield 68, 3) := dk_180 0 68 (dk_at dksX1_replyOf_0 16 rfl rfl)
theorem dX1_replyOf_19 : decode cX1_replyOf 19 = .ok (.iload_n 3, 1) := dk_29 (dk_at dksX1_replyOf_0 19 rfl rfl)
theorem dX1_replyOf_20 : decode cX1_replyOf 20 = .ok (.aaload, 1) := dk_50 (dk_at dksX1_replyOf_0 20 rfl rfl)
theorem dX1_replyOf_21 : decode cX1_replyOf 21 = .ok (.iload_n 1, 1) := dk_27 (dk_at dksX1_replyOf_0 21 rfl rfl)
theorem dX1_replyOf_22 : decode cX1_replyOf 22 = .ok (.iaload, 1) := dk_46 (dk_at dksX1_replyOf_0 22 rfl rfl)
theorem dX1_replyOf_23 : decode cX1_replyOf 23 = .ok (.aload_n 0, 1) := dk_42 (dk_at dksX1_replyOf_0 23 rfl rfl)
theorem dX1_replyOf_24 : decode cX1_replyOf 24 = .ok (.getfield 68, 3) := dk_180 0 68 (dk_at dksX1_replyOf_1 0 rfl rfl)
theorem dX1_replyOf_27 : decode cX1_replyOf 27 = .ok (.iload_n 2, 1) := dk_28 (dk_at dksX1_replyOf_1 3 rfl rfl)
theorem dX1_replyOf_28 : decode cX1_replyOf 28 = .ok (.aaload, 1) := dk_50 (dk_at dksX1_replyOf_1 4 rfl rfl)
theorem dX1_replyOf_29 : decode cX1_replyOf 29 = .ok (.iload_n 1, 1) := dk_27 (dk_at dksX1_replyOf_1 5 rfl rfl)
theorem dX1_replyOf_30 : decode cX1_replyOf 30 = .ok (.iaload, 1) := dk_46 (dk_at dksX1_replyOf_1 6 rfl rfl)
theorem dX1_replyOf_31 : decode cX1_replyOf 31 = .ok (.if_icmp .le 5, 3) := dk_164 0 5 (dk_at dksX1_replyOf_1 7 rfl rfl)
theorem dX1_replyOf_34 : decode cX1_replyOf 34 = .ok (.iload_n 3, 1) := dk_29 (dk_at dksX1_replyOf_1 10 rfl rfl)
theorem dX1_replyOf_35 : decode cX1_replyOf 35 = .ok (.istore_n 2, 1) := dk_61 (dk_at dksX1_replyOf_1 11 rfl rfl)
theorem dX1_replyOf_36 : decode cX1_replyOf 36 = .ok (.iinc 3 1, 3) := dk_132 3 1 (dk_at dksX1_replyOf_1 12 rfl rfl)
theorem dX1_replyOf_39 : decode cX1_replyOf 39 = .ok (.goto (-35), 3) := dk_167 255 221 (dk_at dksX1_replyOf_1 15 rfl rfl)
theorem dX1_replyOf_42 : decode cX1_replyOf 42 = .ok (.iload_n 2, 1) := dk_28 (dk_at dksX1_replyOf_1 18 rfl rfl)
theorem dX1_replyOf_43 : decode cX1_replyOf 43 = .ok (.ireturn, 1) := dk_172 (dk_at dksX1_replyOf_1 19 rfl rfl)
abbrev cX1_even : ByteArray := prog_1_method_50_code
def yX1_even : MethodName := ⟨RX1, "even", "(III)I"⟩
def dkwX1_even_0 : List UInt8 := [42, 27, 28, 182, 1, 132, 42, 27, 28, 182, 1, 139, 42, 29, 182, 1, 148, 172]
abbrev dktX1_even_0 : List UInt8 := dkwX1_even_0 ++ []
theorem dksX1_even_0 : cX1_even.data.toList.drop 0 = dktX1_even_0 := by decide +kernel
theorem dX1_even_0 : decode cX1_even 0 = .ok (.aload_n 0, 1) := dk_42 (dk_at dksX1_even_0 0 rfl rfl)
theorem dX1_even_1 : decode cX1_even 1 = .ok (.iload_n 1, 1) := dk_27 (dk_at dksX1_even_0 1 rfl rfl)
theorem dX1_even_2 : decode cX1_even 2 = .ok (.iload_n 2, 1) := dk_28 (dk_at dksX1_even_0 2 rfl rfl)
theorem dX1_even_3 : decode cX1_even 3 = .ok (.invokevirtual 388, 3) := dk_182 1 132 (dk_at dksX1_even_0 3 rfl rfl)
theorem dX1_even_6 : decode cX1_even 6 = .ok (.aload_n 0, 1) := dk_42 (dk_at dksX1_even_0 6 rfl rfl)
theorem dX1_even_7 : decode cX1_even 7 = .ok (.iload_n 1, 1) := dk_27 (dk_at dksX1_even_0 7 rfl rfl)
theorem dX1_even_8 : decode cX1_even 8 = .ok (.iload_n 2, 1) := dk_28 (dk_at dksX1_even_0 8 rfl rfl)
theorem dX1_even_9 : decode cX1_even 9 = .ok (.invokevirtual 395, 3) := dk_182 1 139 (dk_at dksX1_even_0 9 rfl rfl)
theorem dX1_even_12 : decode cX1_even 12 = .ok (.aload_n 0, 1) := dk_42 (dk_at dksX1_even_0 12 rfl rfl)
theorem dX1_even_13 : decode cX1_even 13 = .ok (.iload_n 3, 1) := dk_29 (dk_at dksX1_even_0 13 rfl rfl)
theorem dX1_even_14 : decode cX1_even 14 = .ok (.invokevirtual 404, 3) := dk_182 1 148 (dk_at dksX1_even_0 14 rfl rfl)
theorem dX1_even_17 : decode cX1_even 17 = .ok (.ireturn, 1) := dk_172 (dk_at dksX1_even_0 17 rfl rfl)
abbrev cX1_evenAt : ByteArray := prog_1_method_49_code
def yX1_evenAt : MethodName := ⟨RX1, "evenAt", "(I)I"⟩
def dkwX1_evenAt_3 : List UInt8 := [2, 160, 0, 7, 28, 167, 0, 4, 2, 172]
abbrev dktX1_evenAt_3 : List UInt8 := dkwX1_evenAt_3 ++ []
def dkwX1_evenAt_2 : List UInt8 := [16, 10, 29, 104, 21, 4, 96, 172, 132, 2, 1, 132, 4, 1, 167, 255, 212, 132, 3, 1, 167, 255, 192, 27]
abbrev dktX1_evenAt_2 : List UInt8 := dkwX1_evenAt_2 ++ dktX1_evenAt_3
def dkwX1_evenAt_1 : List UInt8 := [180, 1, 123, 162, 0, 38, 42, 29, 21, 4, 182, 1, 145, 154, 0, 6, 167, 0, 19, 28, 27, 160, 0, 11]
abbrev dktX1_evenAt_1 : List UInt8 := dkwX1_evenAt_1 ++ dktX1_evenAt_2
def dkwX1_evenAt_0 : List UInt8 := [3, 61, 3, 62, 29, 42, 180, 0, 22, 180, 1, 123, 162, 0, 59, 3, 54, 4, 21, 4, 42, 180, 0, 22]
abbrev dktX1_evenAt_0 : List UInt8 := dkwX1_evenAt_0 ++ dktX1_evenAt_1
theorem dksX1_evenAt_0 : cX1_evenAt.data.toList.drop 0 = dktX1_evenAt_0 := by decide +kernel
theorem dksX1_evenAt_1 : cX1_evenAt.data.toList.drop 24 = dktX1_evenAt_1 := dk_seg dksX1_evenAt_0 24 rfl rfl
theorem dksX1_evenAt_2 : cX1_evenAt.data.toList.drop 48 = dktX1_evenAt_2 := dk_seg dksX1_evenAt_1 24 rfl rfl
theorem dksX1_evenAt_3 : cX1_evenAt.data.toList.drop 72 = dktX1_evenAt_3 := dk_seg dksX1_evenAt_2 24 rfl rfl
theorem dX1_evenAt_0 : decode cX1_evenAt 0 = .ok (.iconst 0, 1) := dk_3 (dk_at dksX1_evenAt_0 0 rfl rfl)
theorem dX1_evenAt_1 : decode cX1_evenAt 1 = .ok (.istore_n 2, 1) := dk_61 (dk_at dksX1_evenAt_0 1 rfl rfl)
theorem dX1_evenAt_2 : decode cX1_evenAt 2 = .ok (.iconst 0, 1) := dk_3 (dk_at dksX1_evenAt_0 2 rfl rfl)
theorem dX1_evenAt_3 : decode cX1_evenAt 3 = .ok (.istore_n 3, 1) := dk_62 (dk_at dksX1_evenAt_0 3 rfl rfl)
theorem dX1_evenAt_4 : decode cX1_evenAt 4 = .ok (.iload_n 3, 1) := dk_29 (dk_at dksX1_evenAt_0 4 rfl rfl)
theorem dX1_evenAt_5 : decode cX1_evenAt 5 = .ok (.aload_n 0, 1) := dk_42 (dk_at dksX1_evenAt_0 5 rfl rfl)
theorem dX1_evenAt_6 : decode cX1_evenAt 6 = .ok (.getfield 22, 3) := dk_180 0 22 (dk_at dksX1_evenAt_0 6 rfl rfl)
theorem dX1_evenAt_9 : decode cX1_evenAt 9 = .ok (.getfield 379, 3) := dk_180 1 123 (dk_at dksX1_evenAt_0 9 rfl rfl)
theorem dX1_evenAt_12 : decode cX1_evenAt 12 = .ok (.if_icmp .ge 59, 3) := dk_162 0 59 (dk_at dksX1_evenAt_0 12 rfl rfl)
theorem dX1_evenAt_15 : decode cX1_evenAt 15 = .ok (.iconst 0, 1) := dk_3 (dk_at dksX1_evenAt_0 15 rfl rfl)
theorem dX1_evenAt_16 : decode cX1_evenAt 16 = .ok (.istore 4, 2) := dk_54 4 (dk_at dksX1_evenAt_0 16 rfl rfl)
theorem dX1_evenAt_18 : decode cX1_evenAt 18 = .ok (.iload 4, 2) := dk_21 4 (dk_at dksX1_evenAt_0 18 rfl rfl)
theorem dX1_evenAt_20 : decode cX1_evenAt 20 = .ok (.aload_n 0, 1) := dk_42 (dk_at dksX1_evenAt_0 20 rfl rfl)
theorem dX1_evenAt_21 : decode cX1_evenAt 21 = .ok (.getfield 22, 3) := dk_180 0 22 (dk_at dksX1_evenAt_0 21 rfl rfl)
theorem dX1_evenAt_24 : decode cX1_evenAt 24 = .ok (.getfield 379, 3) := dk_180 1 123 (dk_at dksX1_evenAt_1 0 rfl rfl)
theorem dX1_evenAt_27 : decode cX1_evenAt 27 = .ok (.if_icmp .ge 38, 3) := dk_162 0 38 (dk_at dksX1_evenAt_1 3 rfl rfl)
theorem dX1_evenAt_30 : decode cX1_evenAt 30 = .ok (.aload_n 0, 1) := dk_42 (dk_at dksX1_evenAt_1 6 rfl rfl)
theorem dX1_evenAt_31 : decode cX1_evenAt 31 = .ok (.iload_n 3, 1) := dk_29 (dk_at dksX1_evenAt_1 7 rfl rfl)
theorem dX1_evenAt_32 : decode cX1_evenAt 32 = .ok (.iload 4, 2) := dk_21 4 (dk_at dksX1_evenAt_1 8 rfl rfl)
theorem dX1_evenAt_34 : decode cX1_evenAt 34 = .ok (.invokevirtual 401, 3) := dk_182 1 145 (dk_at dksX1_evenAt_1 10 rfl rfl)
theorem dX1_evenAt_37 : decode cX1_evenAt 37 = .ok (.ifCond .ne 6, 3) := dk_154 0 6 (dk_at dksX1_evenAt_1 13 rfl rfl)
theorem dX1_evenAt_40 : decode cX1_evenAt 40 = .ok (.goto 19, 3) := dk_167 0 19 (dk_at dksX1_evenAt_1 16 rfl rfl)
theorem dX1_evenAt_43 : decode cX1_evenAt 43 = .ok (.iload_n 2, 1) := dk_28 (dk_at dksX1_evenAt_1 19 rfl rfl)
theorem dX1_evenAt_44 : decode cX1_evenAt 44 = .ok (.iload_n 1, 1) := dk_27 (dk_at dksX1_evenAt_1 20 rfl rfl)
theorem dX1_evenAt_45 : decode cX1_evenAt 45 = .ok (.if_icmp .ne 11, 3) := dk_160 0 11 (dk_at dksX1_evenAt_1 21 rfl rfl)
theorem dX1_evenAt_48 : decode cX1_evenAt 48 = .ok (.bipush 10, 2) := dk_16 10 (dk_at dksX1_evenAt_2 0 rfl rfl)
theorem dX1_evenAt_50 : decode cX1_evenAt 50 = .ok (.iload_n 3, 1) := dk_29 (dk_at dksX1_evenAt_2 2 rfl rfl)
theorem dX1_evenAt_51 : decode cX1_evenAt 51 = .ok (.imul, 1) := dk_104 (dk_at dksX1_evenAt_2 3 rfl rfl)
theorem dX1_evenAt_52 : decode cX1_evenAt 52 = .ok (.iload 4, 2) := dk_21 4 (dk_at dksX1_evenAt_2 4 rfl rfl)
theorem dX1_evenAt_54 : decode cX1_evenAt 54 = .ok (.iadd, 1) := dk_96 (dk_at dksX1_evenAt_2 6 rfl rfl)
theorem dX1_evenAt_55 : decode cX1_evenAt 55 = .ok (.ireturn, 1) := dk_172 (dk_at dksX1_evenAt_2 7 rfl rfl)
theorem dX1_evenAt_56 : decode cX1_evenAt 56 = .ok (.iinc 2 1, 3) := dk_132 2 1 (dk_at dksX1_evenAt_2 8 rfl rfl)
theorem dX1_evenAt_59 : decode cX1_evenAt 59 = .ok (.iinc 4 1, 3) := dk_132 4 1 (dk_at dksX1_evenAt_2 11 rfl rfl)
theorem dX1_evenAt_62 : decode cX1_evenAt 62 = .ok (.goto (-44), 3) := dk_167 255 212 (dk_at dksX1_evenAt_2 14 rfl rfl)
theorem dX1_evenAt_65 : decode cX1_evenAt 65 = .ok (.iinc 3 1, 3) := dk_132 3 1 (dk_at dksX1_evenAt_2 17 rfl rfl)
theorem dX1_evenAt_68 : decode cX1_evenAt 68 = .ok (.goto (-64), 3) := dk_167 255 192 (dk_at dksX1_evenAt_2 20 rfl rfl)
theorem dX1_evenAt_71 : decode cX1_evenAt 71 = .ok (.iload_n 1, 1) := dk_27 (dk_at dksX1_evenAt_2 23 rfl rfl)
theorem dX1_evenAt_72 : decode cX1_evenAt 72 = .ok (.iconst (-1), 1) := dk_2 (dk_at dksX1_evenAt_3 0 rfl rfl)
theorem dX1_evenAt_73 : decode cX1_evenAt 73 = .ok (.if_icmp .ne 7, 3) := dk_160 0 7 (dk_at dksX1_evenAt_3 1 rfl rfl)
theorem dX1_evenAt_76 : decode cX1_evenAt 76 = .ok (.iload_n 2, 1) := dk_28 (dk_at dksX1_evenAt_3 4 rfl rfl)
theorem dX1_evenAt_77 : decode cX1_evenAt 77 = .ok (.goto 4, 3) := dk_167 0 4 (dk_at dksX1_evenAt_3 5 rfl rfl)
theorem dX1_evenAt_80 : decode cX1_evenAt 80 = .ok (.iconst (-1), 1) := dk_2 (dk_at dksX1_evenAt_3 8 rfl rfl)
theorem dX1_evenAt_81 : decode cX1_evenAt 81 = .ok (.ireturn, 1) := dk_172 (dk_at dksX1_evenAt_3 9 rfl rfl)
abbrev cX1_rests : ByteArray := prog_1_method_48_code
def yX1_rests : MethodName := ⟨RX1, "rests", "(II)Z"⟩
def dkwX1_rests_2 : List UInt8 := [28, 46, 164, 0, 5, 3, 172, 132, 3, 1, 167, 255, 202, 4, 172]
abbrev dktX1_rests_2 : List UInt8 := dkwX1_rests_2 ++ []
def dkwX1_rests_1 : List UInt8 := [180, 0, 68, 27, 50, 28, 46, 163, 0, 22, 42, 180, 0, 71, 27, 50, 29, 46, 42, 180, 0, 71, 27, 50]
abbrev dktX1_rests_1 : List UInt8 := dkwX1_rests_1 ++ dktX1_rests_2
def dkwX1_rests_0 : List UInt8 := [3, 62, 29, 42, 180, 0, 22, 180, 1, 123, 162, 0, 49, 42, 180, 0, 68, 29, 50, 28, 46, 42]
abbrev dktX1_rests_0 : List UInt8 := dkwX1_rests_0 ++ dktX1_rests_1
theorem dksX1_rests_0 : cX1_rests.data.toList.drop 0 = dktX1_rests_0 := by decide +kernel
theorem dksX1_rests_1 : cX1_rests.data.toList.drop 22 = dktX1_rests_1 := dk_seg dksX1_rests_0 22 rfl rfl
theorem dksX1_rests_2 : cX1_rests.data.toList.drop 46 = dktX1_rests_2 := dk_seg dksX1_rests_1 24 rfl rfl
theorem dX1_rests_0 : decode cX1_rests 0 = .ok (.iconst 0, 1) := dk_3 (dk_at dksX1_rests_0 0 rfl rfl)
theorem dX1_rests_1 : decode cX1_rests 1 = .ok (.istore_n 3, 1) := dk_62 (dk_at dksX1_rests_0 1 rfl rfl)
theorem dX1_rests_2 : decode cX1_rests 2 = .ok (.iload_n 3, 1) := dk_29 (dk_at dksX1_rests_0 2 rfl rfl)
theorem dX1_rests_3 : decode cX1_rests 3 = .ok (.aload_n 0, 1) := dk_42 (dk_at dksX1_rests_0 3 rfl rfl)
theorem dX1_rests_4 : decode cX1_rests 4 = .ok (.getfield 22, 3) := dk_180 0 22 (dk_at dksX1_rests_0 4 rfl rfl)
theorem dX1_rests_7 : decode cX1_rests 7 = .ok (.getfield 379, 3) := dk_180 1 123 (dk_at dksX1_rests_0 7 rfl rfl)
theorem dX1_rests_10 : decode cX1_rests 10 = .ok (.if_icmp .ge 49, 3) := dk_162 0 49 (dk_at dksX1_rests_0 10 rfl rfl)
theorem dX1_rests_13 : decode cX1_rests 13 = .ok (.aload_n 0, 1) := dk_42 (dk_at dksX1_rests_0 13 rfl rfl)
theorem dX1_rests_14 : decode cX1_rests 14 = .ok (.getfield 68, 3) := dk_180 0 68 (dk_at dksX1_rests_0 14 rfl rfl)
theorem dX1_rests_17 : decode cX1_rests 17 = .ok (.iload_n 3, 1) := dk_29 (dk_at dksX1_rests_0 17 rfl rfl)
theorem dX1_rests_18 : decode cX1_rests 18 = .ok (.aaload, 1) := dk_50 (dk_at dksX1_rests_0 18 rfl rfl)
theorem dX1_rests_19 : decode cX1_rests 19 = .ok (.iload_n 2, 1) := dk_28 (dk_at dksX1_rests_0 19 rfl rfl)
theorem dX1_rests_20 : decode cX1_rests 20 = .ok (.iaload, 1) := dk_46 (dk_at dksX1_rests_0 20 rfl rfl)
theorem dX1_rests_21 : decode cX1_rests 21 = .ok (.aload_n 0, 1) := dk_42 (dk_at dksX1_rests_0 21 rfl rfl)
theorem dX1_rests_22 : decode cX1_rests 22 = .ok (.getfield 68, 3) := dk_180 0 68 (dk_at dksX1_rests_1 0 rfl rfl)
theorem dX1_rests_25 : decode cX1_rests 25 = .ok (.iload_n 1, 1) := dk_27 (dk_at dksX1_rests_1 3 rfl rfl)
theorem dX1_rests_26 : decode cX1_rests 26 = .ok (.aaload, 1) := dk_50 (dk_at dksX1_rests_1 4 rfl rfl)
theorem dX1_rests_27 : decode cX1_rests 27 = .ok (.iload_n 2, 1) := dk_28 (dk_at dksX1_rests_1 5 rfl rfl)
theorem dX1_rests_28 : decode cX1_rests 28 = .ok (.iaload, 1) := dk_46 (dk_at dksX1_rests_1 6 rfl rfl)
theorem dX1_rests_29 : decode cX1_rests 29 = .ok (.if_icmp .gt 22, 3) := dk_163 0 22 (dk_at dksX1_rests_1 7 rfl rfl)
theorem dX1_rests_32 : decode cX1_rests 32 = .ok (.aload_n 0, 1) := dk_42 (dk_at dksX1_rests_1 10 rfl rfl)
theorem dX1_rests_33 : decode cX1_rests 33 = .ok (.getfield 71, 3) := dk_180 0 71 (dk_at dksX1_rests_1 11 rfl rfl)
theorem dX1_rests_36 : decode cX1_rests 36 = .ok (.iload_n 1, 1) := dk_27 (dk_at dksX1_rests_1 14 rfl rfl)
theorem dX1_rests_37 : decode cX1_rests 37 = .ok (.aaload, 1) := dk_50 (dk_at dksX1_rests_1 15 rfl rfl)
theorem dX1_rests_38 : decode cX1_rests 38 = .ok (.iload_n 3, 1) := dk_29 (dk_at dksX1_rests_1 16 rfl rfl)
theorem dX1_rests_39 : decode cX1_rests 39 = .ok (.iaload, 1) := dk_46 (dk_at dksX1_rests_1 17 rfl rfl)
theorem dX1_rests_40 : decode cX1_rests 40 = .ok (.aload_n 0, 1) := dk_42 (dk_at dksX1_rests_1 18 rfl rfl)
theorem dX1_rests_41 : decode cX1_rests 41 = .ok (.getfield 71, 3) := dk_180 0 71 (dk_at dksX1_rests_1 19 rfl rfl)
theorem dX1_rests_44 : decode cX1_rests 44 = .ok (.iload_n 1, 1) := dk_27 (dk_at dksX1_rests_1 22 rfl rfl)
theorem dX1_rests_45 : decode cX1_rests 45 = .ok (.aaload, 1) := dk_50 (dk_at dksX1_rests_1 23 rfl rfl)
theorem dX1_rests_46 : decode cX1_rests 46 = .ok (.iload_n 2, 1) := dk_28 (dk_at dksX1_rests_2 0 rfl rfl)
theorem dX1_rests_47 : decode cX1_rests 47 = .ok (.iaload, 1) := dk_46 (dk_at dksX1_rests_2 1 rfl rfl)
theorem dX1_rests_48 : decode cX1_rests 48 = .ok (.if_icmp .le 5, 3) := dk_164 0 5 (dk_at dksX1_rests_2 2 rfl rfl)
theorem dX1_rests_51 : decode cX1_rests 51 = .ok (.iconst 0, 1) := dk_3 (dk_at dksX1_rests_2 5 rfl rfl)
theorem dX1_rests_52 : decode cX1_rests 52 = .ok (.ireturn, 1) := dk_172 (dk_at dksX1_rests_2 6 rfl rfl)
theorem dX1_rests_53 : decode cX1_rests 53 = .ok (.iinc 3 1, 3) := dk_132 3 1 (dk_at dksX1_rests_2 7 rfl rfl)
theorem dX1_rests_56 : decode cX1_rests 56 = .ok (.goto (-54), 3) := dk_167 255 202 (dk_at dksX1_rests_2 10 rfl rfl)
theorem dX1_rests_59 : decode cX1_rests 59 = .ok (.iconst 1, 1) := dk_4 (dk_at dksX1_rests_2 13 rfl rfl)
theorem dX1_rests_60 : decode cX1_rests 60 = .ok (.ireturn, 1) := dk_172 (dk_at dksX1_rests_2 14 rfl rfl)
abbrev cX1_joint : ByteArray := prog_1_method_52_code
def yX1_joint : MethodName := ⟨RX1, "joint", "(II)I"⟩
def dkwX1_joint_3 : List UInt8 := [16, 10, 21, 4, 104, 21, 5, 96, 62, 132, 5, 1, 167, 255, 207, 132, 4, 1, 167, 255, 186, 29, 172]
abbrev dktX1_joint_3 : List UInt8 := dkwX1_joint_3 ++ []
def dkwX1_joint_2 : List UInt8 := [159, 0, 23, 42, 16, 10, 21, 4, 104, 21, 5, 96, 182, 1, 151, 42, 29, 182, 1, 151, 164, 0, 12]
abbrev dktX1_joint_2 : List UInt8 := dkwX1_joint_2 ++ dktX1_joint_3
def dkwX1_joint_1 : List UInt8 := [180, 1, 123, 162, 0, 64, 3, 54, 5, 21, 5, 42, 180, 0, 22, 180, 1, 123, 162, 0, 43, 29, 2]
abbrev dktX1_joint_1 : List UInt8 := dkwX1_joint_1 ++ dktX1_joint_2
def dkwX1_joint_0 : List UInt8 := [42, 27, 28, 182, 1, 132, 42, 27, 28, 182, 1, 139, 2, 62, 3, 54, 4, 21, 4, 42, 180, 0, 22]
abbrev dktX1_joint_0 : List UInt8 := dkwX1_joint_0 ++ dktX1_joint_1
theorem dksX1_joint_0 : cX1_joint.data.toList.drop 0 = dktX1_joint_0 := by decide +kernel
theorem dksX1_joint_1 : cX1_joint.data.toList.drop 23 = dktX1_joint_1 := dk_seg dksX1_joint_0 23 rfl rfl
theorem dksX1_joint_2 : cX1_joint.data.toList.drop 46 = dktX1_joint_2 := dk_seg dksX1_joint_1 23 rfl rfl
theorem dksX1_joint_3 : cX1_joint.data.toList.drop 69 = dktX1_joint_3 := dk_seg dksX1_joint_2 23 rfl rfl
theorem dX1_joint_0 : decode cX1_joint 0 = .ok (.aload_n 0, 1) := dk_42 (dk_at dksX1_joint_0 0 rfl rfl)
theorem dX1_joint_1 : decode cX1_joint 1 = .ok (.iload_n 1, 1) := dk_27 (dk_at dksX1_joint_0 1 rfl rfl)
theorem dX1_joint_2 : decode cX1_joint 2 = .ok (.iload_n 2, 1) := dk_28 (dk_at dksX1_joint_0 2 rfl rfl)
theorem dX1_joint_3 : decode cX1_joint 3 = .ok (.invokevirtual 388, 3) := dk_182 1 132 (dk_at dksX1_joint_0 3 rfl rfl)
theorem dX1_joint_6 : decode cX1_joint 6 = .ok (.aload_n 0, 1) := dk_42 (dk_at dksX1_joint_0 6 rfl rfl)
theorem dX1_joint_7 : decode cX1_joint 7 = .ok (.iload_n 1, 1) := dk_27 (dk_at dksX1_joint_0 7 rfl rfl)
theorem dX1_joint_8 : decode cX1_joint 8 = .ok (.iload_n 2, 1) := dk_28 (dk_at dksX1_joint_0 8 rfl rfl)
theorem dX1_joint_9 : decode cX1_joint 9 = .ok (.invokevirtual 395, 3) := dk_182 1 139 (dk_at dksX1_joint_0 9 rfl rfl)
theorem dX1_joint_12 : decode cX1_joint 12 = .ok (.iconst (-1), 1) := dk_2 (dk_at dksX1_joint_0 12 rfl rfl)
theorem dX1_joint_13 : decode cX1_joint 13 = .ok (.istore_n 3, 1) := dk_62 (dk_at dksX1_joint_0 13 rfl rfl)
theorem dX1_joint_14 : decode cX1_joint 14 = .ok (.iconst 0, 1) := dk_3 (dk_at dksX1_joint_0 14 rfl rfl)
theorem dX1_joint_15 : decode cX1_joint 15 = .ok (.istore 4, 2) := dk_54 4 (dk_at dksX1_joint_0 15 rfl rfl)
theorem dX1_joint_17 : decode cX1_joint 17 = .ok (.iload 4, 2) := dk_21 4 (dk_at dksX1_joint_0 17 rfl rfl)
theorem dX1_joint_19 : decode cX1_joint 19 = .ok (.aload_n 0, 1) := dk_42 (dk_at dksX1_joint_0 19 rfl rfl)
theorem dX1_joint_20 : decode cX1_joint 20 = .ok (.getfield 22, 3) := dk_180 0 22 (dk_at dksX1_joint_0 20 rfl rfl)
theorem dX1_joint_23 : decode cX1_joint 23 = .ok (.getfield 379, 3) := dk_180 1 123 (dk_at dksX1_joint_1 0 rfl rfl)
theorem dX1_joint_26 : decode cX1_joint 26 = .ok (.if_icmp .ge 64, 3) := dk_162 0 64 (dk_at dksX1_joint_1 3 rfl rfl)
theorem dX1_joint_29 : decode cX1_joint 29 = .ok (.iconst 0, 1) := dk_3 (dk_at dksX1_joint_1 6 rfl rfl)
theorem dX1_joint_30 : decode cX1_joint 30 = .ok (.istore 5, 2) := dk_54 5 (dk_at dksX1_joint_1 7 rfl rfl)
theorem dX1_joint_32 : decode cX1_joint 32 = .ok (.iload 5, 2) := dk_21 5 (dk_at dksX1_joint_1 9 rfl rfl)
theorem dX1_joint_34 : decode cX1_joint 34 = .ok (.aload_n 0, 1) := dk_42 (dk_at dksX1_joint_1 11 rfl rfl)
theorem dX1_joint_35 : decode cX1_joint 35 = .ok (.getfield 22, 3) := dk_180 0 22 (dk_at dksX1_joint_1 12 rfl rfl)
theorem dX1_joint_38 : decode cX1_joint 38 = .ok (.getfield 379, 3) := dk_180 1 123 (dk_at dksX1_joint_1 15 rfl rfl)
theorem dX1_joint_41 : decode cX1_joint 41 = .ok (.if_icmp .ge 43, 3) := dk_162 0 43 (dk_at dksX1_joint_1 18 rfl rfl)
theorem dX1_joint_44 : decode cX1_joint 44 = .ok (.iload_n 3, 1) := dk_29 (dk_at dksX1_joint_1 21 rfl rfl)
theorem dX1_joint_45 : decode cX1_joint 45 = .ok (.iconst (-1), 1) := dk_2 (dk_at dksX1_joint_1 22 rfl rfl)
theorem dX1_joint_46 : decode cX1_joint 46 = .ok (.if_icmp .eq 23, 3) := dk_159 0 23 (dk_at dksX1_joint_2 0 rfl rfl)
theorem dX1_joint_49 : decode cX1_joint 49 = .ok (.aload_n 0, 1) := dk_42 (dk_at dksX1_joint_2 3 rfl rfl)
theorem dX1_joint_50 : decode cX1_joint 50 = .ok (.bipush 10, 2) := dk_16 10 (dk_at dksX1_joint_2 4 rfl rfl)
theorem dX1_joint_52 : decode cX1_joint 52 = .ok (.iload 4, 2) := dk_21 4 (dk_at dksX1_joint_2 6 rfl rfl)
theorem dX1_joint_54 : decode cX1_joint 54 = .ok (.imul, 1) := dk_104 (dk_at dksX1_joint_2 8 rfl rfl)
theorem dX1_joint_55 : decode cX1_joint 55 = .ok (.iload 5, 2) := dk_21 5 (dk_at dksX1_joint_2 9 rfl rfl)
theorem dX1_joint_57 : decode cX1_joint 57 = .ok (.iadd, 1) := dk_96 (dk_at dksX1_joint_2 11 rfl rfl)
theorem dX1_joint_58 : decode cX1_joint 58 = .ok (.invokevirtual 407, 3) := dk_182 1 151 (dk_at dksX1_joint_2 12 rfl rfl)
theorem dX1_joint_61 : decode cX1_joint 61 = .ok (.aload_n 0, 1) := dk_42 (dk_at dksX1_joint_2 15 rfl rfl)
theorem dX1_joint_62 : decode cX1_joint 62 = .ok (.iload_n 3, 1) := dk_29 (dk_at dksX1_joint_2 16 rfl rfl)
theorem dX1_joint_63 : decode cX1_joint 63 = .ok (.invokevirtual 407, 3) := dk_182 1 151 (dk_at dksX1_joint_2 17 rfl rfl)
theorem dX1_joint_66 : decode cX1_joint 66 = .ok (.if_icmp .le 12, 3) := dk_164 0 12 (dk_at dksX1_joint_2 20 rfl rfl)
theorem dX1_joint_69 : decode cX1_joint 69 = .ok (.bipush 10, 2) := dk_16 10 (dk_at dksX1_joint_3 0 rfl rfl)
theorem dX1_joint_71 : decode cX1_joint 71 = .ok (.iload 4, 2) := dk_21 4 (dk_at dksX1_joint_3 2 rfl rfl)
theorem dX1_joint_73 : decode cX1_joint 73 = .ok (.imul, 1) := dk_104 (dk_at dksX1_joint_3 4 rfl rfl)
theorem dX1_joint_74 : decode cX1_joint 74 = .ok (.iload 5, 2) := dk_21 5 (dk_at dksX1_joint_3 5 rfl rfl)
theorem dX1_joint_76 : decode cX1_joint 76 = .ok (.iadd, 1) := dk_96 (dk_at dksX1_joint_3 7 rfl rfl)
theorem dX1_joint_77 : decode cX1_joint 77 = .ok (.istore_n 3, 1) := dk_62 (dk_at dksX1_joint_3 8 rfl rfl)
theorem dX1_joint_78 : decode cX1_joint 78 = .ok (.iinc 5 1, 3) := dk_132 5 1 (dk_at dksX1_joint_3 9 rfl rfl)
theorem dX1_joint_81 : decode cX1_joint 81 = .ok (.goto (-49), 3) := dk_167 255 207 (dk_at dksX1_joint_3 12 rfl rfl)
theorem dX1_joint_84 : decode cX1_joint 84 = .ok (.iinc 4 1, 3) := dk_132 4 1 (dk_at dksX1_joint_3 15 rfl rfl)
theorem dX1_joint_87 : decode cX1_joint 87 = .ok (.goto (-70), 3) := dk_167 255 186 (dk_at dksX1_joint_3 18 rfl rfl)
theorem dX1_joint_90 : decode cX1_joint 90 = .ok (.iload_n 3, 1) := dk_29 (dk_at dksX1_joint_3 21 rfl rfl)
theorem dX1_joint_91 : decode cX1_joint 91 = .ok (.ireturn, 1) := dk_172 (dk_at dksX1_joint_3 22 rfl rfl)
abbrev cX1_both : ByteArray := prog_1_method_51_code
def yX1_both : MethodName := ⟨RX1, "both", "(I)I"⟩
def dkwX1_both_1 : List UInt8 := [16, 10, 112, 46, 96, 172]
abbrev dktX1_both_1 : List UInt8 := dkwX1_both_1 ++ []
def dkwX1_both_0 : List UInt8 := [42, 180, 0, 68, 27, 16, 10, 108, 50, 27, 16, 10, 112, 46, 42, 180, 0, 71, 27, 16, 10, 108, 50, 27]
abbrev dktX1_both_0 : List UInt8 := dkwX1_both_0 ++ dktX1_both_1
theorem dksX1_both_0 : cX1_both.data.toList.drop 0 = dktX1_both_0 := by decide +kernel
theorem dksX1_both_1 : cX1_both.data.toList.drop 24 = dktX1_both_1 := dk_seg dksX1_both_0 24 rfl rfl
theorem dX1_both_0 : decode cX1_both 0 = .ok (.aload_n 0, 1) := dk_42 (dk_at dksX1_both_0 0 rfl rfl)
theorem dX1_both_1 : decode cX1_both 1 = .ok (.getfield 68, 3) := dk_180 0 68 (dk_at dksX1_both_0 1 rfl rfl)
theorem dX1_both_4 : decode cX1_both 4 = .ok (.iload_n 1, 1) := dk_27 (dk_at dksX1_both_0 4 rfl rfl)
theorem dX1_both_5 : decode cX1_both 5 = .ok (.bipush 10, 2) := dk_16 10 (dk_at dksX1_both_0 5 rfl rfl)
theorem dX1_both_7 : decode cX1_both 7 = .ok (.idiv, 1) := dk_108 (dk_at dksX1_both_0 7 rfl rfl)
theorem dX1_both_8 : decode cX1_both 8 = .ok (.aaload, 1) := dk_50 (dk_at dksX1_both_0 8 rfl rfl)
theorem dX1_both_9 : decode cX1_both 9 = .ok (.iload_n 1, 1) := dk_27 (dk_at dksX1_both_0 9 rfl rfl)
theorem dX1_both_10 : decode cX1_both 10 = .ok (.bipush 10, 2) := dk_16 10 (dk_at dksX1_both_0 10 rfl rfl)
theorem dX1_both_12 : decode cX1_both 12 = .ok (.irem, 1) := dk_112 (dk_at dksX1_both_0 12 rfl rfl)
theorem dX1_both_13 : decode cX1_both 13 = .ok (.iaload, 1) := dk_46 (dk_at dksX1_both_0 13 rfl rfl)
theorem dX1_both_14 : decode cX1_both 14 = .ok (.aload_n 0, 1) := dk_42 (dk_at dksX1_both_0 14 rfl rfl)
theorem dX1_both_15 : decode cX1_both 15 = .ok (.getfield 71, 3) := dk_180 0 71 (dk_at dksX1_both_0 15 rfl rfl)
theorem dX1_both_18 : decode cX1_both 18 = .ok (.iload_n 1, 1) := dk_27 (dk_at dksX1_both_0 18 rfl rfl)
theorem dX1_both_19 : decode cX1_both 19 = .ok (.bipush 10, 2) := dk_16 10 (dk_at dksX1_both_0 19 rfl rfl)
theorem dX1_both_21 : decode cX1_both 21 = .ok (.idiv, 1) := dk_108 (dk_at dksX1_both_0 21 rfl rfl)
theorem dX1_both_22 : decode cX1_both 22 = .ok (.aaload, 1) := dk_50 (dk_at dksX1_both_0 22 rfl rfl)
theorem dX1_both_23 : decode cX1_both 23 = .ok (.iload_n 1, 1) := dk_27 (dk_at dksX1_both_0 23 rfl rfl)
theorem dX1_both_24 : decode cX1_both 24 = .ok (.bipush 10, 2) := dk_16 10 (dk_at dksX1_both_1 0 rfl rfl)
theorem dX1_both_26 : decode cX1_both 26 = .ok (.irem, 1) := dk_112 (dk_at dksX1_both_1 2 rfl rfl)
theorem dX1_both_27 : decode cX1_both 27 = .ok (.iaload, 1) := dk_46 (dk_at dksX1_both_1 3 rfl rfl)
theorem dX1_both_28 : decode cX1_both 28 = .ok (.iadd, 1) := dk_96 (dk_at dksX1_both_1 4 rfl rfl)
theorem dX1_both_29 : decode cX1_both 29 = .ok (.ireturn, 1) := dk_172 (dk_at dksX1_both_1 5 rfl rfl)
abbrev cX1_turn : ByteArray := prog_1_method_55_code
def yX1_turn : MethodName := ⟨RX1, "turn", "(IIIII)I"⟩
def dkwX1_turn_2 : List UInt8 := [46, 54, 6, 132, 7, 1, 167, 255, 234, 21, 6, 172]
abbrev dktX1_turn_2 : List UInt8 := dkwX1_turn_2 ++ []
def dkwX1_turn_1 : List UInt8 := [2, 172, 29, 54, 6, 3, 54, 7, 21, 7, 21, 5, 163, 0, 21, 42, 180, 0, 74, 21, 7, 50, 21, 6]
abbrev dktX1_turn_1 : List UInt8 := dkwX1_turn_1 ++ dktX1_turn_2
def dkwX1_turn_0 : List UInt8 := [42, 27, 28, 29, 21, 4, 182, 1, 159, 21, 5, 133, 9, 21, 4, 4, 100, 133, 184, 0, 106, 154, 0, 5]
abbrev dktX1_turn_0 : List UInt8 := dkwX1_turn_0 ++ dktX1_turn_1
theorem dksX1_turn_0 : cX1_turn.data.toList.drop 0 = dktX1_turn_0 := by decide +kernel
theorem dksX1_turn_1 : cX1_turn.data.toList.drop 24 = dktX1_turn_1 := dk_seg dksX1_turn_0 24 rfl rfl
theorem dksX1_turn_2 : cX1_turn.data.toList.drop 48 = dktX1_turn_2 := dk_seg dksX1_turn_1 24 rfl rfl
theorem dX1_turn_0 : decode cX1_turn 0 = .ok (.aload_n 0, 1) := dk_42 (dk_at dksX1_turn_0 0 rfl rfl)
theorem dX1_turn_1 : decode cX1_turn 1 = .ok (.iload_n 1, 1) := dk_27 (dk_at dksX1_turn_0 1 rfl rfl)
theorem dX1_turn_2 : decode cX1_turn 2 = .ok (.iload_n 2, 1) := dk_28 (dk_at dksX1_turn_0 2 rfl rfl)
theorem dX1_turn_3 : decode cX1_turn 3 = .ok (.iload_n 3, 1) := dk_29 (dk_at dksX1_turn_0 3 rfl rfl)
theorem dX1_turn_4 : decode cX1_turn 4 = .ok (.iload 4, 2) := dk_21 4 (dk_at dksX1_turn_0 4 rfl rfl)
theorem dX1_turn_6 : decode cX1_turn 6 = .ok (.invokevirtual 415, 3) := dk_182 1 159 (dk_at dksX1_turn_0 6 rfl rfl)
theorem dX1_turn_9 : decode cX1_turn 9 = .ok (.iload 5, 2) := dk_21 5 (dk_at dksX1_turn_0 9 rfl rfl)
theorem dX1_turn_11 : decode cX1_turn 11 = .ok (.i2l, 1) := dk_133 (dk_at dksX1_turn_0 11 rfl rfl)
theorem dX1_turn_12 : decode cX1_turn 12 = .ok (.lconst 0, 1) := dk_9 (dk_at dksX1_turn_0 12 rfl rfl)
theorem dX1_turn_13 : decode cX1_turn 13 = .ok (.iload 4, 2) := dk_21 4 (dk_at dksX1_turn_0 13 rfl rfl)
theorem dX1_turn_15 : decode cX1_turn 15 = .ok (.iconst 1, 1) := dk_4 (dk_at dksX1_turn_0 15 rfl rfl)
theorem dX1_turn_16 : decode cX1_turn 16 = .ok (.isub, 1) := dk_100 (dk_at dksX1_turn_0 16 rfl rfl)
theorem dX1_turn_17 : decode cX1_turn 17 = .ok (.i2l, 1) := dk_133 (dk_at dksX1_turn_0 17 rfl rfl)
theorem dX1_turn_18 : decode cX1_turn 18 = .ok (.invokestatic 106, 3) := dk_184 0 106 (dk_at dksX1_turn_0 18 rfl rfl)
theorem dX1_turn_21 : decode cX1_turn 21 = .ok (.ifCond .ne 5, 3) := dk_154 0 5 (dk_at dksX1_turn_0 21 rfl rfl)
theorem dX1_turn_24 : decode cX1_turn 24 = .ok (.iconst (-1), 1) := dk_2 (dk_at dksX1_turn_1 0 rfl rfl)
theorem dX1_turn_25 : decode cX1_turn 25 = .ok (.ireturn, 1) := dk_172 (dk_at dksX1_turn_1 1 rfl rfl)
theorem dX1_turn_26 : decode cX1_turn 26 = .ok (.iload_n 3, 1) := dk_29 (dk_at dksX1_turn_1 2 rfl rfl)
theorem dX1_turn_27 : decode cX1_turn 27 = .ok (.istore 6, 2) := dk_54 6 (dk_at dksX1_turn_1 3 rfl rfl)
theorem dX1_turn_29 : decode cX1_turn 29 = .ok (.iconst 0, 1) := dk_3 (dk_at dksX1_turn_1 5 rfl rfl)
theorem dX1_turn_30 : decode cX1_turn 30 = .ok (.istore 7, 2) := dk_54 7 (dk_at dksX1_turn_1 6 rfl rfl)
theorem dX1_turn_32 : decode cX1_turn 32 = .ok (.iload 7, 2) := dk_21 7 (dk_at dksX1_turn_1 8 rfl rfl)
theorem dX1_turn_34 : decode cX1_turn 34 = .ok (.iload 5, 2) := dk_21 5 (dk_at dksX1_turn_1 10 rfl rfl)
theorem dX1_turn_36 : decode cX1_turn 36 = .ok (.if_icmp .gt 21, 3) := dk_163 0 21 (dk_at dksX1_turn_1 12 rfl rfl)
theorem dX1_turn_39 : decode cX1_turn 39 = .ok (.aload_n 0, 1) := dk_42 (dk_at dksX1_turn_1 15 rfl rfl)
theorem dX1_turn_40 : decode cX1_turn 40 = .ok (.getfield 74, 3) := dk_180 0 74 (dk_at dksX1_turn_1 16 rfl rfl)
theorem dX1_turn_43 : decode cX1_turn 43 = .ok (.iload 7, 2) := dk_21 7 (dk_at dksX1_turn_1 19 rfl rfl)
theorem dX1_turn_45 : decode cX1_turn 45 = .ok (.aaload, 1) := dk_50 (dk_at dksX1_turn_1 21 rfl rfl)
theorem dX1_turn_46 : decode cX1_turn 46 = .ok (.iload 6, 2) := dk_21 6 (dk_at dksX1_turn_1 22 rfl rfl)
theorem dX1_turn_48 : decode cX1_turn 48 = .ok (.iaload, 1) := dk_46 (dk_at dksX1_turn_2 0 rfl rfl)
theorem dX1_turn_49 : decode cX1_turn 49 = .ok (.istore 6, 2) := dk_54 6 (dk_at dksX1_turn_2 1 rfl rfl)
theorem dX1_turn_51 : decode cX1_turn 51 = .ok (.iinc 7 1, 3) := dk_132 7 1 (dk_at dksX1_turn_2 3 rfl rfl)
theorem dX1_turn_54 : decode cX1_turn 54 = .ok (.goto (-22), 3) := dk_167 255 234 (dk_at dksX1_turn_2 6 rfl rfl)
theorem dX1_turn_57 : decode cX1_turn 57 = .ok (.iload 6, 2) := dk_21 6 (dk_at dksX1_turn_2 9 rfl rfl)
theorem dX1_turn_59 : decode cX1_turn 59 = .ok (.ireturn, 1) := dk_172 (dk_at dksX1_turn_2 11 rfl rfl)
abbrev cX1_mustTurn : ByteArray := prog_1_method_54_code
def yX1_mustTurn : MethodName := ⟨RX1, "mustTurn", "(IIII)V"⟩
def dkwX1_mustTurn_1 : List UInt8 := [42, 27, 28, 182, 1, 139, 42, 21, 4, 182, 1, 156, 177]
abbrev dktX1_mustTurn_1 : List UInt8 := dkwX1_mustTurn_1 ++ []
def dkwX1_mustTurn_0 : List UInt8 := [42, 27, 28, 182, 1, 132, 21, 4, 133, 10, 20, 1, 154, 184, 0, 106, 184, 0, 143, 42, 29, 182, 1, 136]
abbrev dktX1_mustTurn_0 : List UInt8 := dkwX1_mustTurn_0 ++ dktX1_mustTurn_1
theorem dksX1_mustTurn_0 : cX1_mustTurn.data.toList.drop 0 = dktX1_mustTurn_0 := by decide +kernel
theorem dksX1_mustTurn_1 : cX1_mustTurn.data.toList.drop 24 = dktX1_mustTurn_1 := dk_seg dksX1_mustTurn_0 24 rfl rfl
theorem dX1_mustTurn_0 : decode cX1_mustTurn 0 = .ok (.aload_n 0, 1) := dk_42 (dk_at dksX1_mustTurn_0 0 rfl rfl)
theorem dX1_mustTurn_1 : decode cX1_mustTurn 1 = .ok (.iload_n 1, 1) := dk_27 (dk_at dksX1_mustTurn_0 1 rfl rfl)
theorem dX1_mustTurn_2 : decode cX1_mustTurn 2 = .ok (.iload_n 2, 1) := dk_28 (dk_at dksX1_mustTurn_0 2 rfl rfl)
theorem dX1_mustTurn_3 : decode cX1_mustTurn 3 = .ok (.invokevirtual 388, 3) := dk_182 1 132 (dk_at dksX1_mustTurn_0 3 rfl rfl)
theorem dX1_mustTurn_6 : decode cX1_mustTurn 6 = .ok (.iload 4, 2) := dk_21 4 (dk_at dksX1_mustTurn_0 6 rfl rfl)
theorem dX1_mustTurn_8 : decode cX1_mustTurn 8 = .ok (.i2l, 1) := dk_133 (dk_at dksX1_mustTurn_0 8 rfl rfl)
theorem dX1_mustTurn_9 : decode cX1_mustTurn 9 = .ok (.lconst 1, 1) := dk_10 (dk_at dksX1_mustTurn_0 9 rfl rfl)
theorem dX1_mustTurn_10 : decode cX1_mustTurn 10 = .ok (.ldc2_w 410, 3) := dk_20 1 154 (dk_at dksX1_mustTurn_0 10 rfl rfl)
theorem dX1_mustTurn_13 : decode cX1_mustTurn 13 = .ok (.invokestatic 106, 3) := dk_184 0 106 (dk_at dksX1_mustTurn_0 13 rfl rfl)
theorem dX1_mustTurn_16 : decode cX1_mustTurn 16 = .ok (.invokestatic 143, 3) := dk_184 0 143 (dk_at dksX1_mustTurn_0 16 rfl rfl)
theorem dX1_mustTurn_19 : decode cX1_mustTurn 19 = .ok (.aload_n 0, 1) := dk_42 (dk_at dksX1_mustTurn_0 19 rfl rfl)
theorem dX1_mustTurn_20 : decode cX1_mustTurn 20 = .ok (.iload_n 3, 1) := dk_29 (dk_at dksX1_mustTurn_0 20 rfl rfl)
theorem dX1_mustTurn_21 : decode cX1_mustTurn 21 = .ok (.invokevirtual 392, 3) := dk_182 1 136 (dk_at dksX1_mustTurn_0 21 rfl rfl)
theorem dX1_mustTurn_24 : decode cX1_mustTurn 24 = .ok (.aload_n 0, 1) := dk_42 (dk_at dksX1_mustTurn_1 0 rfl rfl)
theorem dX1_mustTurn_25 : decode cX1_mustTurn 25 = .ok (.iload_n 1, 1) := dk_27 (dk_at dksX1_mustTurn_1 1 rfl rfl)
theorem dX1_mustTurn_26 : decode cX1_mustTurn 26 = .ok (.iload_n 2, 1) := dk_28 (dk_at dksX1_mustTurn_1 2 rfl rfl)
theorem dX1_mustTurn_27 : decode cX1_mustTurn 27 = .ok (.invokevirtual 395, 3) := dk_182 1 139 (dk_at dksX1_mustTurn_1 3 rfl rfl)
theorem dX1_mustTurn_30 : decode cX1_mustTurn 30 = .ok (.aload_n 0, 1) := dk_42 (dk_at dksX1_mustTurn_1 6 rfl rfl)
theorem dX1_mustTurn_31 : decode cX1_mustTurn 31 = .ok (.iload 4, 2) := dk_21 4 (dk_at dksX1_mustTurn_1 7 rfl rfl)
theorem dX1_mustTurn_33 : decode cX1_mustTurn 33 = .ok (.invokevirtual 412, 3) := dk_182 1 156 (dk_at dksX1_mustTurn_1 9 rfl rfl)
theorem dX1_mustTurn_36 : decode cX1_mustTurn 36 = .ok (.return_, 1) := dk_177 (dk_at dksX1_mustTurn_1 12 rfl rfl)
abbrev cX1_foresees : ByteArray := prog_1_method_53_code
def yX1_foresees : MethodName := ⟨RX1, "foresees", "(I)V"⟩
def dkwX1_foresees_10 : List UInt8 := [177]
abbrev dktX1_foresees_10 : List UInt8 := dkwX1_foresees_10 ++ []
def dkwX1_foresees_9 : List UInt8 := [180, 0, 79, 28, 4, 96, 50, 21, 6, 47, 97, 80, 132, 3, 1, 167, 255, 78, 132, 2, 255, 167, 255, 66]
abbrev dktX1_foresees_9 : List UInt8 := dkwX1_foresees_9 ++ dktX1_foresees_10
def dkwX1_foresees_8 : List UInt8 := [180, 0, 71, 21, 6, 50, 29, 46, 167, 0, 12, 42, 180, 0, 68, 29, 50, 21, 6, 46, 133, 42]
abbrev dktX1_foresees_8 : List UInt8 := dkwX1_foresees_8 ++ dktX1_foresees_9
def dkwX1_foresees_7 : List UInt8 := [180, 0, 79, 28, 50, 29, 22, 4, 80, 42, 180, 0, 82, 28, 50, 29, 28, 5, 112, 154, 0, 15, 42]
abbrev dktX1_foresees_7 : List UInt8 := dkwX1_foresees_7 ++ dktX1_foresees_8
def dkwX1_foresees_6 : List UInt8 := [28, 50, 29, 21, 6, 79, 132, 6, 1, 167, 255, 169, 42, 180, 0, 74, 28, 50, 29, 46, 54, 6, 42]
abbrev dktX1_foresees_6 : List UInt8 := dkwX1_foresees_6 ++ dktX1_foresees_7
def dkwX1_foresees_5 : List UInt8 := [21, 6, 158, 0, 14, 22, 7, 22, 4, 148, 157, 0, 6, 167, 0, 17, 22, 7, 55, 4, 42, 180, 0, 74]
abbrev dktX1_foresees_5 : List UInt8 := dkwX1_foresees_5 ++ dktX1_foresees_6
def dkwX1_foresees_4 : List UInt8 := [42, 180, 0, 71, 29, 50, 21, 6, 46, 133, 42, 180, 0, 82, 28, 4, 96, 50, 21, 6, 47, 97, 55, 7]
abbrev dktX1_foresees_4 : List UInt8 := dkwX1_foresees_4 ++ dktX1_foresees_5
def dkwX1_foresees_3 : List UInt8 := [180, 1, 123, 162, 0, 81, 28, 5, 112, 154, 0, 15, 42, 180, 0, 68, 21, 6, 50, 29, 46, 167, 0, 12]
abbrev dktX1_foresees_3 : List UInt8 := dkwX1_foresees_3 ++ dktX1_foresees_4
def dkwX1_foresees_2 : List UInt8 := [29, 42, 180, 0, 22, 180, 1, 123, 162, 0, 173, 9, 55, 4, 3, 54, 6, 21, 6, 42, 180, 0, 22]
abbrev dktX1_foresees_2 : List UInt8 := dkwX1_foresees_2 ++ dktX1_foresees_3
def dkwX1_foresees_1 : List UInt8 := [180, 0, 82, 27, 50, 28, 9, 80, 132, 2, 1, 167, 255, 224, 27, 4, 100, 61, 28, 155, 0, 192, 3, 62]
abbrev dktX1_foresees_1 : List UInt8 := dkwX1_foresees_1 ++ dktX1_foresees_2
def dkwX1_foresees_0 : List UInt8 := [3, 61, 28, 42, 180, 0, 22, 180, 1, 123, 162, 0, 27, 42, 180, 0, 79, 27, 50, 28, 9, 80, 42]
abbrev dktX1_foresees_0 : List UInt8 := dkwX1_foresees_0 ++ dktX1_foresees_1
theorem dksX1_foresees_0 : cX1_foresees.data.toList.drop 0 = dktX1_foresees_0 := by decide +kernel
theorem dksX1_foresees_1 : cX1_foresees.data.toList.drop 23 = dktX1_foresees_1 := dk_seg dksX1_foresees_0 23 rfl rfl
theorem dksX1_foresees_2 : cX1_foresees.data.toList.drop 47 = dktX1_foresees_2 := dk_seg dksX1_foresees_1 24 rfl rfl
theorem dksX1_foresees_3 : cX1_foresees.data.toList.drop 70 = dktX1_foresees_3 := dk_seg dksX1_foresees_2 23 rfl rfl
theorem dksX1_foresees_4 : cX1_foresees.data.toList.drop 94 = dktX1_foresees_4 := dk_seg dksX1_foresees_3 24 rfl rfl
theorem dksX1_foresees_5 : cX1_foresees.data.toList.drop 118 = dktX1_foresees_5 := dk_seg dksX1_foresees_4 24 rfl rfl
theorem dksX1_foresees_6 : cX1_foresees.data.toList.drop 142 = dktX1_foresees_6 := dk_seg dksX1_foresees_5 24 rfl rfl
theorem dksX1_foresees_7 : cX1_foresees.data.toList.drop 165 = dktX1_foresees_7 := dk_seg dksX1_foresees_6 23 rfl rfl
theorem dksX1_foresees_8 : cX1_foresees.data.toList.drop 188 = dktX1_foresees_8 := dk_seg dksX1_foresees_7 23 rfl rfl
theorem dksX1_foresees_9 : cX1_foresees.data.toList.drop 210 = dktX1_foresees_9 := dk_seg dksX1_foresees_8 22 rfl rfl
theorem dksX1_foresees_10 : cX1_foresees.data.toList.drop 234 = dktX1_foresees_10 := dk_seg dksX1_foresees_9 24 rfl rfl
theorem dX1_foresees_0 : decode cX1_foresees 0 = .ok (.iconst 0, 1) := dk_3 (dk_at dksX1_foresees_0 0 rfl rfl)
theorem dX1_foresees_1 : decode cX1_foresees 1 = .ok (.istore_n 2, 1) := dk_61 (dk_at dksX1_foresees_0 1 rfl rfl)
theorem dX1_foresees_2 : decode cX1_foresees 2 = .ok (.iload_n 2, 1) := dk_28 (dk_at dksX1_foresees_0 2 rfl rfl)
theorem dX1_foresees_3 : decode cX1_foresees 3 = .ok (.aload_n 0, 1) := dk_42 (dk_at dksX1_foresees_0 3 rfl rfl)
theorem dX1_foresees_4 : decode cX1_foresees 4 = .ok (.getfield 22, 3) := dk_180 0 22 (dk_at dksX1_foresees_0 4 rfl rfl)
theorem dX1_foresees_7 : decode cX1_foresees 7 = .ok (.getfield 379, 3) := dk_180 1 123 (dk_at dksX1_foresees_0 7 rfl rfl)
theorem dX1_foresees_10 : decode cX1_foresees 10 = .ok (.if_icmp .ge 27, 3) := dk_162 0 27 (dk_at dksX1_foresees_0 10 rfl rfl)
theorem dX1_foresees_13 : decode cX1_foresees 13 = .ok (.aload_n 0, 1) := dk_42 (dk_at dksX1_foresees_0 13 rfl rfl)
theorem dX1_foresees_14 : decode cX1_foresees 14 = .ok (.getfield 79, 3) := dk_180 0 79 (dk_at dksX1_foresees_0 14 rfl rfl)
theorem dX1_foresees_17 : decode cX1_foresees 17 = .ok (.iload_n 1, 1) := dk_27 (dk_at dksX1_foresees_0 17 rfl rfl)
theorem dX1_foresees_18 : decode cX1_foresees 18 = .ok (.aaload, 1) := dk_50 (dk_at dksX1_foresees_0 18 rfl rfl)
theorem dX1_foresees_19 : decode cX1_foresees 19 = .ok (.iload_n 2, 1) := dk_28 (dk_at dksX1_foresees_0 19 rfl rfl)
theorem dX1_foresees_20 : decode cX1_foresees 20 = .ok (.lconst 0, 1) := dk_9 (dk_at dksX1_foresees_0 20 rfl rfl)
theorem dX1_foresees_21 : decode cX1_foresees 21 = .ok (.lastore, 1) := dk_80 (dk_at dksX1_foresees_0 21 rfl rfl)
theorem dX1_foresees_22 : decode cX1_foresees 22 = .ok (.aload_n 0, 1) := dk_42 (dk_at dksX1_foresees_0 22 rfl rfl)
theorem dX1_foresees_23 : decode cX1_foresees 23 = .ok (.getfield 82, 3) := dk_180 0 82 (dk_at dksX1_foresees_1 0 rfl rfl)
theorem dX1_foresees_26 : decode cX1_foresees 26 = .ok (.iload_n 1, 1) := dk_27 (dk_at dksX1_foresees_1 3 rfl rfl)
theorem dX1_foresees_27 : decode cX1_foresees 27 = .ok (.aaload, 1) := dk_50 (dk_at dksX1_foresees_1 4 rfl rfl)
theorem dX1_foresees_28 : decode cX1_foresees 28 = .ok (.iload_n 2, 1) := dk_28 (dk_at dksX1_foresees_1 5 rfl rfl)
theorem dX1_foresees_29 : decode cX1_foresees 29 = .ok (.lconst 0, 1) := dk_9 (dk_at dksX1_foresees_1 6 rfl rfl)
theorem dX1_foresees_30 : decode cX1_foresees 30 = .ok (.lastore, 1) := dk_80 (dk_at dksX1_foresees_1 7 rfl rfl)
theorem dX1_foresees_31 : decode cX1_foresees 31 = .ok (.iinc 2 1, 3) := dk_132 2 1 (dk_at dksX1_foresees_1 8 rfl rfl)
theorem dX1_foresees_34 : decode cX1_foresees 34 = .ok (.goto (-32), 3) := dk_167 255 224 (dk_at dksX1_foresees_1 11 rfl rfl)
theorem dX1_foresees_37 : decode cX1_foresees 37 = .ok (.iload_n 1, 1) := dk_27 (dk_at dksX1_foresees_1 14 rfl rfl)
theorem dX1_foresees_38 : decode cX1_foresees 38 = .ok (.iconst 1, 1) := dk_4 (dk_at dksX1_foresees_1 15 rfl rfl)
theorem dX1_foresees_39 : decode cX1_foresees 39 = .ok (.isub, 1) := dk_100 (dk_at dksX1_foresees_1 16 rfl rfl)
theorem dX1_foresees_40 : decode cX1_foresees 40 = .ok (.istore_n 2, 1) := dk_61 (dk_at dksX1_foresees_1 17 rfl rfl)
theorem dX1_foresees_41 : decode cX1_foresees 41 = .ok (.iload_n 2, 1) := dk_28 (dk_at dksX1_foresees_1 18 rfl rfl)
theorem dX1_foresees_42 : decode cX1_foresees 42 = .ok (.ifCond .lt 192, 3) := dk_155 0 192 (dk_at dksX1_foresees_1 19 rfl rfl)
theorem dX1_foresees_45 : decode cX1_foresees 45 = .ok (.iconst 0, 1) := dk_3 (dk_at dksX1_foresees_1 22 rfl rfl)
theorem dX1_foresees_46 : decode cX1_foresees 46 = .ok (.istore_n 3, 1) := dk_62 (dk_at dksX1_foresees_1 23 rfl rfl)
theorem dX1_foresees_47 : decode cX1_foresees 47 = .ok (.iload_n 3, 1) := dk_29 (dk_at dksX1_foresees_2 0 rfl rfl)
theorem dX1_foresees_48 : decode cX1_foresees 48 = .ok (.aload_n 0, 1) := dk_42 (dk_at dksX1_foresees_2 1 rfl rfl)
theorem dX1_foresees_49 : decode cX1_foresees 49 = .ok (.getfield 22, 3) := dk_180 0 22 (dk_at dksX1_foresees_2 2 rfl rfl)
theorem dX1_foresees_52 : decode cX1_foresees 52 = .ok (.getfield 379, 3) := dk_180 1 123 (dk_at dksX1_foresees_2 5 rfl rfl)
theorem dX1_foresees_55 : decode cX1_foresees 55 = .ok (.if_icmp .ge 173, 3) := dk_162 0 173 (dk_at dksX1_foresees_2 8 rfl rfl)
theorem dX1_foresees_58 : decode cX1_foresees 58 = .ok (.lconst 0, 1) := dk_9 (dk_at dksX1_foresees_2 11 rfl rfl)
theorem dX1_foresees_59 : decode cX1_foresees 59 = .ok (.lstore 4, 2) := dk_55 4 (dk_at dksX1_foresees_2 12 rfl rfl)
theorem dX1_foresees_61 : decode cX1_foresees 61 = .ok (.iconst 0, 1) := dk_3 (dk_at dksX1_foresees_2 14 rfl rfl)
theorem dX1_foresees_62 : decode cX1_foresees 62 = .ok (.istore 6, 2) := dk_54 6 (dk_at dksX1_foresees_2 15 rfl rfl)
theorem dX1_foresees_64 : decode cX1_foresees 64 = .ok (.iload 6, 2) := dk_21 6 (dk_at dksX1_foresees_2 17 rfl rfl)
theorem dX1_foresees_66 : decode cX1_foresees 66 = .ok (.aload_n 0, 1) := dk_42 (dk_at dksX1_foresees_2 19 rfl rfl)
theorem dX1_foresees_67 : decode cX1_foresees 67 = .ok (.getfield 22, 3) := dk_180 0 22 (dk_at dksX1_foresees_2 20 rfl rfl)
theorem dX1_foresees_70 : decode cX1_foresees 70 = .ok (.getfield 379, 3) := dk_180 1 123 (dk_at dksX1_foresees_3 0 rfl rfl)
theorem dX1_foresees_73 : decode cX1_foresees 73 = .ok (.if_icmp .ge 81, 3) := dk_162 0 81 (dk_at dksX1_foresees_3 3 rfl rfl)
theorem dX1_foresees_76 : decode cX1_foresees 76 = .ok (.iload_n 2, 1) := dk_28 (dk_at dksX1_foresees_3 6 rfl rfl)
theorem dX1_foresees_77 : decode cX1_foresees 77 = .ok (.iconst 2, 1) := dk_5 (dk_at dksX1_foresees_3 7 rfl rfl)
theorem dX1_foresees_78 : decode cX1_foresees 78 = .ok (.irem, 1) := dk_112 (dk_at dksX1_foresees_3 8 rfl rfl)
theorem dX1_foresees_79 : decode cX1_foresees 79 = .ok (.ifCond .ne 15, 3) := dk_154 0 15 (dk_at dksX1_foresees_3 9 rfl rfl)
theorem dX1_foresees_82 : decode cX1_foresees 82 = .ok (.aload_n 0, 1) := dk_42 (dk_at dksX1_foresees_3 12 rfl rfl)
theorem dX1_foresees_83 : decode cX1_foresees 83 = .ok (.getfield 68, 3) := dk_180 0 68 (dk_at dksX1_foresees_3 13 rfl rfl)
theorem dX1_foresees_86 : decode cX1_foresees 86 = .ok (.iload 6, 2) := dk_21 6 (dk_at dksX1_foresees_3 16 rfl rfl)
theorem dX1_foresees_88 : decode cX1_foresees 88 = .ok (.aaload, 1) := dk_50 (dk_at dksX1_foresees_3 18 rfl rfl)
theorem dX1_foresees_89 : decode cX1_foresees 89 = .ok (.iload_n 3, 1) := dk_29 (dk_at dksX1_foresees_3 19 rfl rfl)
theorem dX1_foresees_90 : decode cX1_foresees 90 = .ok (.iaload, 1) := dk_46 (dk_at dksX1_foresees_3 20 rfl rfl)
theorem dX1_foresees_91 : decode cX1_foresees 91 = .ok (.goto 12, 3) := dk_167 0 12 (dk_at dksX1_foresees_3 21 rfl rfl)
theorem dX1_foresees_94 : decode cX1_foresees 94 = .ok (.aload_n 0, 1) := dk_42 (dk_at dksX1_foresees_4 0 rfl rfl)
theorem dX1_foresees_95 : decode cX1_foresees 95 = .ok (.getfield 71, 3) := dk_180 0 71 (dk_at dksX1_foresees_4 1 rfl rfl)
theorem dX1_foresees_98 : decode cX1_foresees 98 = .ok (.iload_n 3, 1) := dk_29 (dk_at dksX1_foresees_4 4 rfl rfl)
theorem dX1_foresees_99 : decode cX1_foresees 99 = .ok (.aaload, 1) := dk_50 (dk_at dksX1_foresees_4 5 rfl rfl)
theorem dX1_foresees_100 : decode cX1_foresees 100 = .ok (.iload 6, 2) := dk_21 6 (dk_at dksX1_foresees_4 6 rfl rfl)
theorem dX1_foresees_102 : decode cX1_foresees 102 = .ok (.iaload, 1) := dk_46 (dk_at dksX1_foresees_4 8 rfl rfl)
theorem dX1_foresees_103 : decode cX1_foresees 103 = .ok (.i2l, 1) := dk_133 (dk_at dksX1_foresees_4 9 rfl rfl)
theorem dX1_foresees_104 : decode cX1_foresees 104 = .ok (.aload_n 0, 1) := dk_42 (dk_at dksX1_foresees_4 10 rfl rfl)
theorem dX1_foresees_105 : decode cX1_foresees 105 = .ok (.getfield 82, 3) := dk_180 0 82 (dk_at dksX1_foresees_4 11 rfl rfl)
theorem dX1_foresees_108 : decode cX1_foresees 108 = .ok (.iload_n 2, 1) := dk_28 (dk_at dksX1_foresees_4 14 rfl rfl)
theorem dX1_foresees_109 : decode cX1_foresees 109 = .ok (.iconst 1, 1) := dk_4 (dk_at dksX1_foresees_4 15 rfl rfl)
theorem dX1_foresees_110 : decode cX1_foresees 110 = .ok (.iadd, 1) := dk_96 (dk_at dksX1_foresees_4 16 rfl rfl)
theorem dX1_foresees_111 : decode cX1_foresees 111 = .ok (.aaload, 1) := dk_50 (dk_at dksX1_foresees_4 17 rfl rfl)
theorem dX1_foresees_112 : decode cX1_foresees 112 = .ok (.iload 6, 2) := dk_21 6 (dk_at dksX1_foresees_4 18 rfl rfl)
theorem dX1_foresees_114 : decode cX1_foresees 114 = .ok (.laload, 1) := dk_47 (dk_at dksX1_foresees_4 20 rfl rfl)
theorem dX1_foresees_115 : decode cX1_foresees 115 = .ok (.ladd, 1) := dk_97 (dk_at dksX1_foresees_4 21 rfl rfl)
theorem dX1_foresees_116 : decode cX1_foresees 116 = .ok (.lstore 7, 2) := dk_55 7 (dk_at dksX1_foresees_4 22 rfl rfl)
theorem dX1_foresees_118 : decode cX1_foresees 118 = .ok (.iload 6, 2) := dk_21 6 (dk_at dksX1_foresees_5 0 rfl rfl)
theorem dX1_foresees_120 : decode cX1_foresees 120 = .ok (.ifCond .le 14, 3) := dk_158 0 14 (dk_at dksX1_foresees_5 2 rfl rfl)
theorem dX1_foresees_123 : decode cX1_foresees 123 = .ok (.lload 7, 2) := dk_22 7 (dk_at dksX1_foresees_5 5 rfl rfl)
theorem dX1_foresees_125 : decode cX1_foresees 125 = .ok (.lload 4, 2) := dk_22 4 (dk_at dksX1_foresees_5 7 rfl rfl)
theorem dX1_foresees_127 : decode cX1_foresees 127 = .ok (.lcmp, 1) := dk_148 (dk_at dksX1_foresees_5 9 rfl rfl)
theorem dX1_foresees_128 : decode cX1_foresees 128 = .ok (.ifCond .gt 6, 3) := dk_157 0 6 (dk_at dksX1_foresees_5 10 rfl rfl)
theorem dX1_foresees_131 : decode cX1_foresees 131 = .ok (.goto 17, 3) := dk_167 0 17 (dk_at dksX1_foresees_5 13 rfl rfl)
theorem dX1_foresees_134 : decode cX1_foresees 134 = .ok (.lload 7, 2) := dk_22 7 (dk_at dksX1_foresees_5 16 rfl rfl)
theorem dX1_foresees_136 : decode cX1_foresees 136 = .ok (.lstore 4, 2) := dk_55 4 (dk_at dksX1_foresees_5 18 rfl rfl)
theorem dX1_foresees_138 : decode cX1_foresees 138 = .ok (.aload_n 0, 1) := dk_42 (dk_at dksX1_foresees_5 20 rfl rfl)
theorem dX1_foresees_139 : decode cX1_foresees 139 = .ok (.getfield 74, 3) := dk_180 0 74 (dk_at dksX1_foresees_5 21 rfl rfl)
theorem dX1_foresees_142 : decode cX1_foresees 142 = .ok (.iload_n 2, 1) := dk_28 (dk_at dksX1_foresees_6 0 rfl rfl)
theorem dX1_foresees_143 : decode cX1_foresees 143 = .ok (.aaload, 1) := dk_50 (dk_at dksX1_foresees_6 1 rfl rfl)
theorem dX1_foresees_144 : decode cX1_foresees 144 = .ok (.iload_n 3, 1) := dk_29 (dk_at dksX1_foresees_6 2 rfl rfl)
theorem dX1_foresees_145 : decode cX1_foresees 145 = .ok (.iload 6, 2) := dk_21 6 (dk_at dksX1_foresees_6 3 rfl rfl)
theorem dX1_foresees_147 : decode cX1_foresees 147 = .ok (.iastore, 1) := dk_79 (dk_at dksX1_foresees_6 5 rfl rfl)
theorem dX1_foresees_148 : decode cX1_foresees 148 = .ok (.iinc 6 1, 3) := dk_132 6 1 (dk_at dksX1_foresees_6 6 rfl rfl)
theorem dX1_foresees_151 : decode cX1_foresees 151 = .ok (.goto (-87), 3) := dk_167 255 169 (dk_at dksX1_foresees_6 9 rfl rfl)
theorem dX1_foresees_154 : decode cX1_foresees 154 = .ok (.aload_n 0, 1) := dk_42 (dk_at dksX1_foresees_6 12 rfl rfl)
theorem dX1_foresees_155 : decode cX1_foresees 155 = .ok (.getfield 74, 3) := dk_180 0 74 (dk_at dksX1_foresees_6 13 rfl rfl)
theorem dX1_foresees_158 : decode cX1_foresees 158 = .ok (.iload_n 2, 1) := dk_28 (dk_at dksX1_foresees_6 16 rfl rfl)
theorem dX1_foresees_159 : decode cX1_foresees 159 = .ok (.aaload, 1) := dk_50 (dk_at dksX1_foresees_6 17 rfl rfl)
theorem dX1_foresees_160 : decode cX1_foresees 160 = .ok (.iload_n 3, 1) := dk_29 (dk_at dksX1_foresees_6 18 rfl rfl)
theorem dX1_foresees_161 : decode cX1_foresees 161 = .ok (.iaload, 1) := dk_46 (dk_at dksX1_foresees_6 19 rfl rfl)
theorem dX1_foresees_162 : decode cX1_foresees 162 = .ok (.istore 6, 2) := dk_54 6 (dk_at dksX1_foresees_6 20 rfl rfl)
theorem dX1_foresees_164 : decode cX1_foresees 164 = .ok (.aload_n 0, 1) := dk_42 (dk_at dksX1_foresees_6 22 rfl rfl)
theorem dX1_foresees_165 : decode cX1_foresees 165 = .ok (.getfield 79, 3) := dk_180 0 79 (dk_at dksX1_foresees_7 0 rfl rfl)
theorem dX1_foresees_168 : decode cX1_foresees 168 = .ok (.iload_n 2, 1) := dk_28 (dk_at dksX1_foresees_7 3 rfl rfl)
theorem dX1_foresees_169 : decode cX1_foresees 169 = .ok (.aaload, 1) := dk_50 (dk_at dksX1_foresees_7 4 rfl rfl)
theorem dX1_foresees_170 : decode cX1_foresees 170 = .ok (.iload_n 3, 1) := dk_29 (dk_at dksX1_foresees_7 5 rfl rfl)
theorem dX1_foresees_171 : decode cX1_foresees 171 = .ok (.lload 4, 2) := dk_22 4 (dk_at dksX1_foresees_7 6 rfl rfl)
theorem dX1_foresees_173 : decode cX1_foresees 173 = .ok (.lastore, 1) := dk_80 (dk_at dksX1_foresees_7 8 rfl rfl)
theorem dX1_foresees_174 : decode cX1_foresees 174 = .ok (.aload_n 0, 1) := dk_42 (dk_at dksX1_foresees_7 9 rfl rfl)
theorem dX1_foresees_175 : decode cX1_foresees 175 = .ok (.getfield 82, 3) := dk_180 0 82 (dk_at dksX1_foresees_7 10 rfl rfl)
theorem dX1_foresees_178 : decode cX1_foresees 178 = .ok (.iload_n 2, 1) := dk_28 (dk_at dksX1_foresees_7 13 rfl rfl)
theorem dX1_foresees_179 : decode cX1_foresees 179 = .ok (.aaload, 1) := dk_50 (dk_at dksX1_foresees_7 14 rfl rfl)
theorem dX1_foresees_180 : decode cX1_foresees 180 = .ok (.iload_n 3, 1) := dk_29 (dk_at dksX1_foresees_7 15 rfl rfl)
theorem dX1_foresees_181 : decode cX1_foresees 181 = .ok (.iload_n 2, 1) := dk_28 (dk_at dksX1_foresees_7 16 rfl rfl)
theorem dX1_foresees_182 : decode cX1_foresees 182 = .ok (.iconst 2, 1) := dk_5 (dk_at dksX1_foresees_7 17 rfl rfl)
theorem dX1_foresees_183 : decode cX1_foresees 183 = .ok (.irem, 1) := dk_112 (dk_at dksX1_foresees_7 18 rfl rfl)
theorem dX1_foresees_184 : decode cX1_foresees 184 = .ok (.ifCond .ne 15, 3) := dk_154 0 15 (dk_at dksX1_foresees_7 19 rfl rfl)
theorem dX1_foresees_187 : decode cX1_foresees 187 = .ok (.aload_n 0, 1) := dk_42 (dk_at dksX1_foresees_7 22 rfl rfl)
theorem dX1_foresees_188 : decode cX1_foresees 188 = .ok (.getfield 71, 3) := dk_180 0 71 (dk_at dksX1_foresees_8 0 rfl rfl)
theorem dX1_foresees_191 : decode cX1_foresees 191 = .ok (.iload 6, 2) := dk_21 6 (dk_at dksX1_foresees_8 3 rfl rfl)
theorem dX1_foresees_193 : decode cX1_foresees 193 = .ok (.aaload, 1) := dk_50 (dk_at dksX1_foresees_8 5 rfl rfl)
theorem dX1_foresees_194 : decode cX1_foresees 194 = .ok (.iload_n 3, 1) := dk_29 (dk_at dksX1_foresees_8 6 rfl rfl)
theorem dX1_foresees_195 : decode cX1_foresees 195 = .ok (.iaload, 1) := dk_46 (dk_at dksX1_foresees_8 7 rfl rfl)
theorem dX1_foresees_196 : decode cX1_foresees 196 = .ok (.goto 12, 3) := dk_167 0 12 (dk_at dksX1_foresees_8 8 rfl rfl)
theorem dX1_foresees_199 : decode cX1_foresees 199 = .ok (.aload_n 0, 1) := dk_42 (dk_at dksX1_foresees_8 11 rfl rfl)
theorem dX1_foresees_200 : decode cX1_foresees 200 = .ok (.getfield 68, 3) := dk_180 0 68 (dk_at dksX1_foresees_8 12 rfl rfl)
theorem dX1_foresees_203 : decode cX1_foresees 203 = .ok (.iload_n 3, 1) := dk_29 (dk_at dksX1_foresees_8 15 rfl rfl)
theorem dX1_foresees_204 : decode cX1_foresees 204 = .ok (.aaload, 1) := dk_50 (dk_at dksX1_foresees_8 16 rfl rfl)
theorem dX1_foresees_205 : decode cX1_foresees 205 = .ok (.iload 6, 2) := dk_21 6 (dk_at dksX1_foresees_8 17 rfl rfl)
theorem dX1_foresees_207 : decode cX1_foresees 207 = .ok (.iaload, 1) := dk_46 (dk_at dksX1_foresees_8 19 rfl rfl)
theorem dX1_foresees_208 : decode cX1_foresees 208 = .ok (.i2l, 1) := dk_133 (dk_at dksX1_foresees_8 20 rfl rfl)
theorem dX1_foresees_209 : decode cX1_foresees 209 = .ok (.aload_n 0, 1) := dk_42 (dk_at dksX1_foresees_8 21 rfl rfl)
theorem dX1_foresees_210 : decode cX1_foresees 210 = .ok (.getfield 79, 3) := dk_180 0 79 (dk_at dksX1_foresees_9 0 rfl rfl)
theorem dX1_foresees_213 : decode cX1_foresees 213 = .ok (.iload_n 2, 1) := dk_28 (dk_at dksX1_foresees_9 3 rfl rfl)
theorem dX1_foresees_214 : decode cX1_foresees 214 = .ok (.iconst 1, 1) := dk_4 (dk_at dksX1_foresees_9 4 rfl rfl)
theorem dX1_foresees_215 : decode cX1_foresees 215 = .ok (.iadd, 1) := dk_96 (dk_at dksX1_foresees_9 5 rfl rfl)
theorem dX1_foresees_216 : decode cX1_foresees 216 = .ok (.aaload, 1) := dk_50 (dk_at dksX1_foresees_9 6 rfl rfl)
theorem dX1_foresees_217 : decode cX1_foresees 217 = .ok (.iload 6, 2) := dk_21 6 (dk_at dksX1_foresees_9 7 rfl rfl)
theorem dX1_foresees_219 : decode cX1_foresees 219 = .ok (.laload, 1) := dk_47 (dk_at dksX1_foresees_9 9 rfl rfl)
theorem dX1_foresees_220 : decode cX1_foresees 220 = .ok (.ladd, 1) := dk_97 (dk_at dksX1_foresees_9 10 rfl rfl)
theorem dX1_foresees_221 : decode cX1_foresees 221 = .ok (.lastore, 1) := dk_80 (dk_at dksX1_foresees_9 11 rfl rfl)
theorem dX1_foresees_222 : decode cX1_foresees 222 = .ok (.iinc 3 1, 3) := dk_132 3 1 (dk_at dksX1_foresees_9 12 rfl rfl)
theorem dX1_foresees_225 : decode cX1_foresees 225 = .ok (.goto (-178), 3) := dk_167 255 78 (dk_at dksX1_foresees_9 15 rfl rfl)
theorem dX1_foresees_228 : decode cX1_foresees 228 = .ok (.iinc 2 (-1), 3) := dk_132 2 255 (dk_at dksX1_foresees_9 18 rfl rfl)
theorem dX1_foresees_231 : decode cX1_foresees 231 = .ok (.goto (-190), 3) := dk_167 255 66 (dk_at dksX1_foresees_9 21 rfl rfl)
theorem dX1_foresees_234 : decode cX1_foresees 234 = .ok (.return_, 1) := dk_177 (dk_at dksX1_foresees_10 0 rfl rfl)
abbrev cX1_gains : ByteArray := prog_1_method_56_code
def yX1_gains : MethodName := ⟨RX1, "gains", "(IIIIZ)J"⟩
def dkwX1_gains_1 : List UInt8 := [167, 0, 11, 42, 180, 0, 79, 3, 50, 29, 47, 173]
abbrev dktX1_gains_1 : List UInt8 := dkwX1_gains_1 ++ []
def dkwX1_gains_0 : List UInt8 := [42, 27, 28, 29, 21, 4, 182, 1, 159, 21, 5, 153, 0, 14, 42, 180, 0, 82, 3, 50, 29, 47]
abbrev dktX1_gains_0 : List UInt8 := dkwX1_gains_0 ++ dktX1_gains_1
theorem dksX1_gains_0 : cX1_gains.data.toList.drop 0 = dktX1_gains_0 := by decide +kernel
theorem dksX1_gains_1 : cX1_gains.data.toList.drop 22 = dktX1_gains_1 := dk_seg dksX1_gains_0 22 rfl rfl
theorem dX1_gains_0 : decode cX1_gains 0 = .ok (.aload_n 0, 1) := dk_42 (dk_at dksX1_gains_0 0 rfl rfl)
theorem dX1_gains_1 : decode cX1_gains 1 = .ok (.iload_n 1, 1) := dk_27 (dk_at dksX1_gains_0 1 rfl rfl)
theorem dX1_gains_2 : decode cX1_gains 2 = .ok (.iload_n 2, 1) := dk_28 (dk_at dksX1_gains_0 2 rfl rfl)
theorem dX1_gains_3 : decode cX1_gains 3 = .ok (.iload_n 3, 1) := dk_29 (dk_at dksX1_gains_0 3 rfl rfl)
theorem dX1_gains_4 : decode cX1_gains 4 = .ok (.iload 4, 2) := dk_21 4 (dk_at dksX1_gains_0 4 rfl rfl)
theorem dX1_gains_6 : decode cX1_gains 6 = .ok (.invokevirtual 415, 3) := dk_182 1 159 (dk_at dksX1_gains_0 6 rfl rfl)
theorem dX1_gains_9 : decode cX1_gains 9 = .ok (.iload 5, 2) := dk_21 5 (dk_at dksX1_gains_0 9 rfl rfl)
theorem dX1_gains_11 : decode cX1_gains 11 = .ok (.ifCond .eq 14, 3) := dk_153 0 14 (dk_at dksX1_gains_0 11 rfl rfl)
theorem dX1_gains_14 : decode cX1_gains 14 = .ok (.aload_n 0, 1) := dk_42 (dk_at dksX1_gains_0 14 rfl rfl)
theorem dX1_gains_15 : decode cX1_gains 15 = .ok (.getfield 82, 3) := dk_180 0 82 (dk_at dksX1_gains_0 15 rfl rfl)
theorem dX1_gains_18 : decode cX1_gains 18 = .ok (.iconst 0, 1) := dk_3 (dk_at dksX1_gains_0 18 rfl rfl)
theorem dX1_gains_19 : decode cX1_gains 19 = .ok (.aaload, 1) := dk_50 (dk_at dksX1_gains_0 19 rfl rfl)
theorem dX1_gains_20 : decode cX1_gains 20 = .ok (.iload_n 3, 1) := dk_29 (dk_at dksX1_gains_0 20 rfl rfl)
theorem dX1_gains_21 : decode cX1_gains 21 = .ok (.laload, 1) := dk_47 (dk_at dksX1_gains_0 21 rfl rfl)
theorem dX1_gains_22 : decode cX1_gains 22 = .ok (.goto 11, 3) := dk_167 0 11 (dk_at dksX1_gains_1 0 rfl rfl)
theorem dX1_gains_25 : decode cX1_gains 25 = .ok (.aload_n 0, 1) := dk_42 (dk_at dksX1_gains_1 3 rfl rfl)
theorem dX1_gains_26 : decode cX1_gains 26 = .ok (.getfield 79, 3) := dk_180 0 79 (dk_at dksX1_gains_1 4 rfl rfl)
theorem dX1_gains_29 : decode cX1_gains 29 = .ok (.iconst 0, 1) := dk_3 (dk_at dksX1_gains_1 7 rfl rfl)
theorem dX1_gains_30 : decode cX1_gains 30 = .ok (.aaload, 1) := dk_50 (dk_at dksX1_gains_1 8 rfl rfl)
theorem dX1_gains_31 : decode cX1_gains 31 = .ok (.iload_n 3, 1) := dk_29 (dk_at dksX1_gains_1 9 rfl rfl)
theorem dX1_gains_32 : decode cX1_gains 32 = .ok (.laload, 1) := dk_47 (dk_at dksX1_gains_1 10 rfl rfl)
theorem dX1_gains_33 : decode cX1_gains 33 = .ok (.lreturn, 1) := dk_173 (dk_at dksX1_gains_1 11 rfl rfl)
abbrev cX1_learn : ByteArray := prog_1_method_57_code
def yX1_learn : MethodName := ⟨RX1, "learn", "(IIII)I"⟩
def dkwX1_learn_2 : List UInt8 := [172]
abbrev dktX1_learn_2 : List UInt8 := dkwX1_learn_2 ++ []
def dkwX1_learn_1 : List UInt8 := [180, 1, 123, 154, 0, 5, 2, 172, 42, 27, 28, 182, 1, 139, 42, 180, 0, 88, 29, 21, 4, 182, 1, 164]
abbrev dktX1_learn_1 : List UInt8 := dkwX1_learn_1 ++ dktX1_learn_2
def dkwX1_learn_0 : List UInt8 := [42, 27, 28, 182, 1, 132, 29, 133, 10, 20, 1, 162, 184, 0, 106, 184, 0, 143, 42, 180, 0, 22]
abbrev dktX1_learn_0 : List UInt8 := dkwX1_learn_0 ++ dktX1_learn_1
theorem dksX1_learn_0 : cX1_learn.data.toList.drop 0 = dktX1_learn_0 := by decide +kernel
theorem dksX1_learn_1 : cX1_learn.data.toList.drop 22 = dktX1_learn_1 := dk_seg dksX1_learn_0 22 rfl rfl
theorem dksX1_learn_2 : cX1_learn.data.toList.drop 46 = dktX1_learn_2 := dk_seg dksX1_learn_1 24 rfl rfl
theorem dX1_learn_0 : decode cX1_learn 0 = .ok (.aload_n 0, 1) := dk_42 (dk_at dksX1_learn_0 0 rfl rfl)
theorem dX1_learn_1 : decode cX1_learn 1 = .ok (.iload_n 1, 1) := dk_27 (dk_at dksX1_learn_0 1 rfl rfl)
theorem dX1_learn_2 : decode cX1_learn 2 = .ok (.iload_n 2, 1) := dk_28 (dk_at dksX1_learn_0 2 rfl rfl)
theorem dX1_learn_3 : decode cX1_learn 3 = .ok (.invokevirtual 388, 3) := dk_182 1 132 (dk_at dksX1_learn_0 3 rfl rfl)
theorem dX1_learn_6 : decode cX1_learn 6 = .ok (.iload_n 3, 1) := dk_29 (dk_at dksX1_learn_0 6 rfl rfl)
theorem dX1_learn_7 : decode cX1_learn 7 = .ok (.i2l, 1) := dk_133 (dk_at dksX1_learn_0 7 rfl rfl)
theorem dX1_learn_8 : decode cX1_learn 8 = .ok (.lconst 1, 1) := dk_10 (dk_at dksX1_learn_0 8 rfl rfl)
theorem dX1_learn_9 : decode cX1_learn 9 = .ok (.ldc2_w 418, 3) := dk_20 1 162 (dk_at dksX1_learn_0 9 rfl rfl)
theorem dX1_learn_12 : decode cX1_learn 12 = .ok (.invokestatic 106, 3) := dk_184 0 106 (dk_at dksX1_learn_0 12 rfl rfl)
theorem dX1_learn_15 : decode cX1_learn 15 = .ok (.invokestatic 143, 3) := dk_184 0 143 (dk_at dksX1_learn_0 15 rfl rfl)
theorem dX1_learn_18 : decode cX1_learn 18 = .ok (.aload_n 0, 1) := dk_42 (dk_at dksX1_learn_0 18 rfl rfl)
theorem dX1_learn_19 : decode cX1_learn 19 = .ok (.getfield 22, 3) := dk_180 0 22 (dk_at dksX1_learn_0 19 rfl rfl)
theorem dX1_learn_22 : decode cX1_learn 22 = .ok (.getfield 379, 3) := dk_180 1 123 (dk_at dksX1_learn_1 0 rfl rfl)
theorem dX1_learn_25 : decode cX1_learn 25 = .ok (.ifCond .ne 5, 3) := dk_154 0 5 (dk_at dksX1_learn_1 3 rfl rfl)
theorem dX1_learn_28 : decode cX1_learn 28 = .ok (.iconst (-1), 1) := dk_2 (dk_at dksX1_learn_1 6 rfl rfl)
theorem dX1_learn_29 : decode cX1_learn 29 = .ok (.ireturn, 1) := dk_172 (dk_at dksX1_learn_1 7 rfl rfl)
theorem dX1_learn_30 : decode cX1_learn 30 = .ok (.aload_n 0, 1) := dk_42 (dk_at dksX1_learn_1 8 rfl rfl)
theorem dX1_learn_31 : decode cX1_learn 31 = .ok (.iload_n 1, 1) := dk_27 (dk_at dksX1_learn_1 9 rfl rfl)
theorem dX1_learn_32 : decode cX1_learn 32 = .ok (.iload_n 2, 1) := dk_28 (dk_at dksX1_learn_1 10 rfl rfl)
theorem dX1_learn_33 : decode cX1_learn 33 = .ok (.invokevirtual 395, 3) := dk_182 1 139 (dk_at dksX1_learn_1 11 rfl rfl)
theorem dX1_learn_36 : decode cX1_learn 36 = .ok (.aload_n 0, 1) := dk_42 (dk_at dksX1_learn_1 14 rfl rfl)
theorem dX1_learn_37 : decode cX1_learn 37 = .ok (.getfield 88, 3) := dk_180 0 88 (dk_at dksX1_learn_1 15 rfl rfl)
theorem dX1_learn_40 : decode cX1_learn 40 = .ok (.iload_n 3, 1) := dk_29 (dk_at dksX1_learn_1 18 rfl rfl)
theorem dX1_learn_41 : decode cX1_learn 41 = .ok (.iload 4, 2) := dk_21 4 (dk_at dksX1_learn_1 19 rfl rfl)
theorem dX1_learn_43 : decode cX1_learn 43 = .ok (.invokevirtual 420, 3) := dk_182 1 164 (dk_at dksX1_learn_1 21 rfl rfl)
theorem dX1_learn_46 : decode cX1_learn 46 = .ok (.ireturn, 1) := dk_172 (dk_at dksX1_learn_2 0 rfl rfl)
abbrev cX1_above : ByteArray := prog_1_method_58_code
def yX1_above : MethodName := ⟨RX1, "above", "(IIII)I"⟩
def dkwX1_above_4 : List UInt8 := [182, 1, 151, 164, 0, 7, 4, 167, 0, 4, 3, 96, 54, 6, 132, 7, 1, 167, 255, 213, 21, 6, 172]
abbrev dktX1_above_4 : List UInt8 := dkwX1_above_4 ++ []
def dkwX1_above_3 : List UInt8 := [163, 0, 42, 21, 6, 42, 42, 180, 0, 88, 29, 21, 7, 182, 1, 164, 182, 1, 151, 42, 21, 5]
abbrev dktX1_above_3 : List UInt8 := dkwX1_above_3 ++ dktX1_above_4
def dkwX1_above_2 : List UInt8 := [3, 182, 1, 148, 54, 5, 21, 5, 2, 160, 0, 5, 2, 172, 3, 54, 6, 4, 54, 7, 21, 7, 21, 4]
abbrev dktX1_above_2 : List UInt8 := dkwX1_above_2 ++ dktX1_above_3
def dkwX1_above_1 : List UInt8 := [20, 0, 157, 184, 0, 106, 153, 0, 7, 4, 167, 0, 4, 3, 184, 0, 143, 42, 27, 28, 182, 1, 139, 42]
abbrev dktX1_above_1 : List UInt8 := dkwX1_above_1 ++ dktX1_above_2
def dkwX1_above_0 : List UInt8 := [42, 27, 28, 182, 1, 132, 29, 133, 10, 20, 1, 67, 184, 0, 106, 153, 0, 20, 21, 4, 133, 10]
abbrev dktX1_above_0 : List UInt8 := dkwX1_above_0 ++ dktX1_above_1
theorem dksX1_above_0 : cX1_above.data.toList.drop 0 = dktX1_above_0 := by decide +kernel
theorem dksX1_above_1 : cX1_above.data.toList.drop 22 = dktX1_above_1 := dk_seg dksX1_above_0 22 rfl rfl
theorem dksX1_above_2 : cX1_above.data.toList.drop 46 = dktX1_above_2 := dk_seg dksX1_above_1 24 rfl rfl
theorem dksX1_above_3 : cX1_above.data.toList.drop 70 = dktX1_above_3 := dk_seg dksX1_above_2 24 rfl rfl
theorem dksX1_above_4 : cX1_above.data.toList.drop 92 = dktX1_above_4 := dk_seg dksX1_above_3 22 rfl rfl
theorem dX1_above_0 : decode cX1_above 0 = .ok (.aload_n 0, 1) := dk_42 (dk_at dksX1_above_0 0 rfl rfl)
theorem dX1_above_1 : decode cX1_above 1 = .ok (.iload_n 1, 1) := dk_27 (dk_at dksX1_above_0 1 rfl rfl)
theorem dX1_above_2 : decode cX1_above 2 = .ok (.iload_n 2, 1) := dk_28 (dk_at dksX1_above_0 2 rfl rfl)
theorem dX1_above_3 : decode cX1_above 3 = .ok (.invokevirtual 388, 3) := dk_182 1 132 (dk_at dksX1_above_0 3 rfl rfl)
theorem dX1_above_6 : decode cX1_above 6 = .ok (.iload_n 3, 1) := dk_29 (dk_at dksX1_above_0 6 rfl rfl)
theorem dX1_above_7 : decode cX1_above 7 = .ok (.i2l, 1) := dk_133 (dk_at dksX1_above_0 7 rfl rfl)
theorem dX1_above_8 : decode cX1_above 8 = .ok (.lconst 1, 1) := dk_10 (dk_at dksX1_above_0 8 rfl rfl)
theorem dX1_above_9 : decode cX1_above 9 = .ok (.ldc2_w 323, 3) := dk_20 1 67 (dk_at dksX1_above_0 9 rfl rfl)
theorem dX1_above_12 : decode cX1_above 12 = .ok (.invokestatic 106, 3) := dk_184 0 106 (dk_at dksX1_above_0 12 rfl rfl)
theorem dX1_above_15 : decode cX1_above 15 = .ok (.ifCond .eq 20, 3) := dk_153 0 20 (dk_at dksX1_above_0 15 rfl rfl)
theorem dX1_above_18 : decode cX1_above 18 = .ok (.iload 4, 2) := dk_21 4 (dk_at dksX1_above_0 18 rfl rfl)
theorem dX1_above_20 : decode cX1_above 20 = .ok (.i2l, 1) := dk_133 (dk_at dksX1_above_0 20 rfl rfl)
theorem dX1_above_21 : decode cX1_above 21 = .ok (.lconst 1, 1) := dk_10 (dk_at dksX1_above_0 21 rfl rfl)
theorem dX1_above_22 : decode cX1_above 22 = .ok (.ldc2_w 157, 3) := dk_20 0 157 (dk_at dksX1_above_1 0 rfl rfl)
theorem dX1_above_25 : decode cX1_above 25 = .ok (.invokestatic 106, 3) := dk_184 0 106 (dk_at dksX1_above_1 3 rfl rfl)
theorem dX1_above_28 : decode cX1_above 28 = .ok (.ifCond .eq 7, 3) := dk_153 0 7 (dk_at dksX1_above_1 6 rfl rfl)
theorem dX1_above_31 : decode cX1_above 31 = .ok (.iconst 1, 1) := dk_4 (dk_at dksX1_above_1 9 rfl rfl)
theorem dX1_above_32 : decode cX1_above 32 = .ok (.goto 4, 3) := dk_167 0 4 (dk_at dksX1_above_1 10 rfl rfl)
theorem dX1_above_35 : decode cX1_above 35 = .ok (.iconst 0, 1) := dk_3 (dk_at dksX1_above_1 13 rfl rfl)
theorem dX1_above_36 : decode cX1_above 36 = .ok (.invokestatic 143, 3) := dk_184 0 143 (dk_at dksX1_above_1 14 rfl rfl)
theorem dX1_above_39 : decode cX1_above 39 = .ok (.aload_n 0, 1) := dk_42 (dk_at dksX1_above_1 17 rfl rfl)
theorem dX1_above_40 : decode cX1_above 40 = .ok (.iload_n 1, 1) := dk_27 (dk_at dksX1_above_1 18 rfl rfl)
theorem dX1_above_41 : decode cX1_above 41 = .ok (.iload_n 2, 1) := dk_28 (dk_at dksX1_above_1 19 rfl rfl)
theorem dX1_above_42 : decode cX1_above 42 = .ok (.invokevirtual 395, 3) := dk_182 1 139 (dk_at dksX1_above_1 20 rfl rfl)
theorem dX1_above_45 : decode cX1_above 45 = .ok (.aload_n 0, 1) := dk_42 (dk_at dksX1_above_1 23 rfl rfl)
theorem dX1_above_46 : decode cX1_above 46 = .ok (.iconst 0, 1) := dk_3 (dk_at dksX1_above_2 0 rfl rfl)
theorem dX1_above_47 : decode cX1_above 47 = .ok (.invokevirtual 404, 3) := dk_182 1 148 (dk_at dksX1_above_2 1 rfl rfl)
theorem dX1_above_50 : decode cX1_above 50 = .ok (.istore 5, 2) := dk_54 5 (dk_at dksX1_above_2 4 rfl rfl)
theorem dX1_above_52 : decode cX1_above 52 = .ok (.iload 5, 2) := dk_21 5 (dk_at dksX1_above_2 6 rfl rfl)
theorem dX1_above_54 : decode cX1_above 54 = .ok (.iconst (-1), 1) := dk_2 (dk_at dksX1_above_2 8 rfl rfl)
theorem dX1_above_55 : decode cX1_above 55 = .ok (.if_icmp .ne 5, 3) := dk_160 0 5 (dk_at dksX1_above_2 9 rfl rfl)
theorem dX1_above_58 : decode cX1_above 58 = .ok (.iconst (-1), 1) := dk_2 (dk_at dksX1_above_2 12 rfl rfl)
theorem dX1_above_59 : decode cX1_above 59 = .ok (.ireturn, 1) := dk_172 (dk_at dksX1_above_2 13 rfl rfl)
theorem dX1_above_60 : decode cX1_above 60 = .ok (.iconst 0, 1) := dk_3 (dk_at dksX1_above_2 14 rfl rfl)
theorem dX1_above_61 : decode cX1_above 61 = .ok (.istore 6, 2) := dk_54 6 (dk_at dksX1_above_2 15 rfl rfl)
theorem dX1_above_63 : decode cX1_above 63 = .ok (.iconst 1, 1) := dk_4 (dk_at dksX1_above_2 17 rfl rfl)
theorem dX1_above_64 : decode cX1_above 64 = .ok (.istore 7, 2) := dk_54 7 (dk_at dksX1_above_2 18 rfl rfl)
theorem dX1_above_66 : decode cX1_above 66 = .ok (.iload 7, 2) := dk_21 7 (dk_at dksX1_above_2 20 rfl rfl)
theorem dX1_above_68 : decode cX1_above 68 = .ok (.iload 4, 2) := dk_21 4 (dk_at dksX1_above_2 22 rfl rfl)
theorem dX1_above_70 : decode cX1_above 70 = .ok (.if_icmp .gt 42, 3) := dk_163 0 42 (dk_at dksX1_above_3 0 rfl rfl)
theorem dX1_above_73 : decode cX1_above 73 = .ok (.iload 6, 2) := dk_21 6 (dk_at dksX1_above_3 3 rfl rfl)
theorem dX1_above_75 : decode cX1_above 75 = .ok (.aload_n 0, 1) := dk_42 (dk_at dksX1_above_3 5 rfl rfl)
theorem dX1_above_76 : decode cX1_above 76 = .ok (.aload_n 0, 1) := dk_42 (dk_at dksX1_above_3 6 rfl rfl)
theorem dX1_above_77 : decode cX1_above 77 = .ok (.getfield 88, 3) := dk_180 0 88 (dk_at dksX1_above_3 7 rfl rfl)
theorem dX1_above_80 : decode cX1_above 80 = .ok (.iload_n 3, 1) := dk_29 (dk_at dksX1_above_3 10 rfl rfl)
theorem dX1_above_81 : decode cX1_above 81 = .ok (.iload 7, 2) := dk_21 7 (dk_at dksX1_above_3 11 rfl rfl)
theorem dX1_above_83 : decode cX1_above 83 = .ok (.invokevirtual 420, 3) := dk_182 1 164 (dk_at dksX1_above_3 13 rfl rfl)
theorem dX1_above_86 : decode cX1_above 86 = .ok (.invokevirtual 407, 3) := dk_182 1 151 (dk_at dksX1_above_3 16 rfl rfl)
theorem dX1_above_89 : decode cX1_above 89 = .ok (.aload_n 0, 1) := dk_42 (dk_at dksX1_above_3 19 rfl rfl)
theorem dX1_above_90 : decode cX1_above 90 = .ok (.iload 5, 2) := dk_21 5 (dk_at dksX1_above_3 20 rfl rfl)
theorem dX1_above_92 : decode cX1_above 92 = .ok (.invokevirtual 407, 3) := dk_182 1 151 (dk_at dksX1_above_4 0 rfl rfl)
theorem dX1_above_95 : decode cX1_above 95 = .ok (.if_icmp .le 7, 3) := dk_164 0 7 (dk_at dksX1_above_4 3 rfl rfl)
theorem dX1_above_98 : decode cX1_above 98 = .ok (.iconst 1, 1) := dk_4 (dk_at dksX1_above_4 6 rfl rfl)
theorem dX1_above_99 : decode cX1_above 99 = .ok (.goto 4, 3) := dk_167 0 4 (dk_at dksX1_above_4 7 rfl rfl)
theorem dX1_above_102 : decode cX1_above 102 = .ok (.iconst 0, 1) := dk_3 (dk_at dksX1_above_4 10 rfl rfl)
theorem dX1_above_103 : decode cX1_above 103 = .ok (.iadd, 1) := dk_96 (dk_at dksX1_above_4 11 rfl rfl)
theorem dX1_above_104 : decode cX1_above 104 = .ok (.istore 6, 2) := dk_54 6 (dk_at dksX1_above_4 12 rfl rfl)
theorem dX1_above_106 : decode cX1_above 106 = .ok (.iinc 7 1, 3) := dk_132 7 1 (dk_at dksX1_above_4 14 rfl rfl)
theorem dX1_above_109 : decode cX1_above 109 = .ok (.goto (-43), 3) := dk_167 255 213 (dk_at dksX1_above_4 17 rfl rfl)
theorem dX1_above_112 : decode cX1_above 112 = .ok (.iload 6, 2) := dk_21 6 (dk_at dksX1_above_4 20 rfl rfl)
theorem dX1_above_114 : decode cX1_above 114 = .ok (.ireturn, 1) := dk_172 (dk_at dksX1_above_4 22 rfl rfl)
abbrev cX1_punish : ByteArray := prog_1_method_59_code
def yX1_punish : MethodName := ⟨RX1, "punish", "(IIIII)I"⟩
def dkwX1_punish_2 : List UInt8 := [180, 0, 88, 180, 1, 167, 21, 5, 50, 182, 1, 170, 172]
abbrev dktX1_punish_2 : List UInt8 := dkwX1_punish_2 ++ []
def dkwX1_punish_1 : List UInt8 := [42, 27, 28, 182, 1, 139, 42, 180, 0, 88, 29, 21, 4, 182, 1, 164, 87, 42, 180, 0, 88, 42]
abbrev dktX1_punish_1 : List UInt8 := dkwX1_punish_1 ++ dktX1_punish_2
def dkwX1_punish_0 : List UInt8 := [42, 27, 28, 182, 1, 132, 29, 133, 10, 20, 1, 162, 184, 0, 106, 184, 0, 143, 42, 21, 5, 182, 1, 136]
abbrev dktX1_punish_0 : List UInt8 := dkwX1_punish_0 ++ dktX1_punish_1
theorem dksX1_punish_0 : cX1_punish.data.toList.drop 0 = dktX1_punish_0 := by decide +kernel
theorem dksX1_punish_1 : cX1_punish.data.toList.drop 24 = dktX1_punish_1 := dk_seg dksX1_punish_0 24 rfl rfl
theorem dksX1_punish_2 : cX1_punish.data.toList.drop 46 = dktX1_punish_2 := dk_seg dksX1_punish_1 22 rfl rfl
theorem dX1_punish_0 : decode cX1_punish 0 = .ok (.aload_n 0, 1) := dk_42 (dk_at dksX1_punish_0 0 rfl rfl)
theorem dX1_punish_1 : decode cX1_punish 1 = .ok (.iload_n 1, 1) := dk_27 (dk_at dksX1_punish_0 1 rfl rfl)
theorem dX1_punish_2 : decode cX1_punish 2 = .ok (.iload_n 2, 1) := dk_28 (dk_at dksX1_punish_0 2 rfl rfl)
theorem dX1_punish_3 : decode cX1_punish 3 = .ok (.invokevirtual 388, 3) := dk_182 1 132 (dk_at dksX1_punish_0 3 rfl rfl)
theorem dX1_punish_6 : decode cX1_punish 6 = .ok (.iload_n 3, 1) := dk_29 (dk_at dksX1_punish_0 6 rfl rfl)
theorem dX1_punish_7 : decode cX1_punish 7 = .ok (.i2l, 1) := dk_133 (dk_at dksX1_punish_0 7 rfl rfl)
theorem dX1_punish_8 : decode cX1_punish 8 = .ok (.lconst 1, 1) := dk_10 (dk_at dksX1_punish_0 8 rfl rfl)
theorem dX1_punish_9 : decode cX1_punish 9 = .ok (.ldc2_w 418, 3) := dk_20 1 162 (dk_at dksX1_punish_0 9 rfl rfl)
theorem dX1_punish_12 : decode cX1_punish 12 = .ok (.invokestatic 106, 3) := dk_184 0 106 (dk_at dksX1_punish_0 12 rfl rfl)
theorem dX1_punish_15 : decode cX1_punish 15 = .ok (.invokestatic 143, 3) := dk_184 0 143 (dk_at dksX1_punish_0 15 rfl rfl)
theorem dX1_punish_18 : decode cX1_punish 18 = .ok (.aload_n 0, 1) := dk_42 (dk_at dksX1_punish_0 18 rfl rfl)
theorem dX1_punish_19 : decode cX1_punish 19 = .ok (.iload 5, 2) := dk_21 5 (dk_at dksX1_punish_0 19 rfl rfl)
theorem dX1_punish_21 : decode cX1_punish 21 = .ok (.invokevirtual 392, 3) := dk_182 1 136 (dk_at dksX1_punish_0 21 rfl rfl)
theorem dX1_punish_24 : decode cX1_punish 24 = .ok (.aload_n 0, 1) := dk_42 (dk_at dksX1_punish_1 0 rfl rfl)
theorem dX1_punish_25 : decode cX1_punish 25 = .ok (.iload_n 1, 1) := dk_27 (dk_at dksX1_punish_1 1 rfl rfl)
theorem dX1_punish_26 : decode cX1_punish 26 = .ok (.iload_n 2, 1) := dk_28 (dk_at dksX1_punish_1 2 rfl rfl)
theorem dX1_punish_27 : decode cX1_punish 27 = .ok (.invokevirtual 395, 3) := dk_182 1 139 (dk_at dksX1_punish_1 3 rfl rfl)
theorem dX1_punish_30 : decode cX1_punish 30 = .ok (.aload_n 0, 1) := dk_42 (dk_at dksX1_punish_1 6 rfl rfl)
theorem dX1_punish_31 : decode cX1_punish 31 = .ok (.getfield 88, 3) := dk_180 0 88 (dk_at dksX1_punish_1 7 rfl rfl)
theorem dX1_punish_34 : decode cX1_punish 34 = .ok (.iload_n 3, 1) := dk_29 (dk_at dksX1_punish_1 10 rfl rfl)
theorem dX1_punish_35 : decode cX1_punish 35 = .ok (.iload 4, 2) := dk_21 4 (dk_at dksX1_punish_1 11 rfl rfl)
theorem dX1_punish_37 : decode cX1_punish 37 = .ok (.invokevirtual 420, 3) := dk_182 1 164 (dk_at dksX1_punish_1 13 rfl rfl)
theorem dX1_punish_40 : decode cX1_punish 40 = .ok (.pop, 1) := dk_87 (dk_at dksX1_punish_1 16 rfl rfl)
theorem dX1_punish_41 : decode cX1_punish 41 = .ok (.aload_n 0, 1) := dk_42 (dk_at dksX1_punish_1 17 rfl rfl)
theorem dX1_punish_42 : decode cX1_punish 42 = .ok (.getfield 88, 3) := dk_180 0 88 (dk_at dksX1_punish_1 18 rfl rfl)
theorem dX1_punish_45 : decode cX1_punish 45 = .ok (.aload_n 0, 1) := dk_42 (dk_at dksX1_punish_1 21 rfl rfl)
theorem dX1_punish_46 : decode cX1_punish 46 = .ok (.getfield 88, 3) := dk_180 0 88 (dk_at dksX1_punish_2 0 rfl rfl)
theorem dX1_punish_49 : decode cX1_punish 49 = .ok (.getfield 423, 3) := dk_180 1 167 (dk_at dksX1_punish_2 3 rfl rfl)
theorem dX1_punish_52 : decode cX1_punish 52 = .ok (.iload 5, 2) := dk_21 5 (dk_at dksX1_punish_2 6 rfl rfl)
theorem dX1_punish_54 : decode cX1_punish 54 = .ok (.aaload, 1) := dk_50 (dk_at dksX1_punish_2 8 rfl rfl)
theorem dX1_punish_55 : decode cX1_punish 55 = .ok (.invokevirtual 426, 3) := dk_182 1 170 (dk_at dksX1_punish_2 9 rfl rfl)
theorem dX1_punish_58 : decode cX1_punish 58 = .ok (.ireturn, 1) := dk_172 (dk_at dksX1_punish_2 12 rfl rfl)
abbrev cX1_story : ByteArray := prog_1_method_63_code
def yX1_story : MethodName := ⟨RX1, "story", "(II)Z"⟩
def dkwX1_story_3 : List UInt8 := [167, 255, 227, 4, 172, 58, 4, 187, 0, 7, 89, 183, 0, 9, 191]
abbrev dktX1_story_3 : List UInt8 := dkwX1_story_3 ++ []
def dkwX1_story_2 : List UInt8 := [42, 180, 0, 22, 180, 1, 197, 27, 50, 21, 4, 45, 21, 4, 182, 1, 186, 136, 79, 132, 4, 1]
abbrev dktX1_story_2 : List UInt8 := dkwX1_story_2 ++ dktX1_story_3
def dkwX1_story_1 : List UInt8 := [160, 0, 12, 45, 16, 9, 182, 1, 194, 154, 0, 5, 3, 172, 3, 54, 4, 21, 4, 16, 21, 162, 0, 28]
abbrev dktX1_story_1 : List UInt8 := dkwX1_story_1 ++ dktX1_story_2
def dkwX1_story_0 : List UInt8 := [27, 133, 9, 10, 184, 0, 106, 184, 0, 110, 42, 28, 182, 1, 173, 78, 45, 182, 1, 193, 16, 21]
abbrev dktX1_story_0 : List UInt8 := dkwX1_story_0 ++ dktX1_story_1
theorem dksX1_story_0 : cX1_story.data.toList.drop 0 = dktX1_story_0 := by decide +kernel
theorem dksX1_story_1 : cX1_story.data.toList.drop 22 = dktX1_story_1 := dk_seg dksX1_story_0 22 rfl rfl
theorem dksX1_story_2 : cX1_story.data.toList.drop 46 = dktX1_story_2 := dk_seg dksX1_story_1 24 rfl rfl
theorem dksX1_story_3 : cX1_story.data.toList.drop 68 = dktX1_story_3 := dk_seg dksX1_story_2 22 rfl rfl
theorem dX1_story_0 : decode cX1_story 0 = .ok (.iload_n 1, 1) := dk_27 (dk_at dksX1_story_0 0 rfl rfl)
theorem dX1_story_1 : decode cX1_story 1 = .ok (.i2l, 1) := dk_133 (dk_at dksX1_story_0 1 rfl rfl)
theorem dX1_story_2 : decode cX1_story 2 = .ok (.lconst 0, 1) := dk_9 (dk_at dksX1_story_0 2 rfl rfl)
theorem dX1_story_3 : decode cX1_story 3 = .ok (.lconst 1, 1) := dk_10 (dk_at dksX1_story_0 3 rfl rfl)
theorem dX1_story_4 : decode cX1_story 4 = .ok (.invokestatic 106, 3) := dk_184 0 106 (dk_at dksX1_story_0 4 rfl rfl)
theorem dX1_story_7 : decode cX1_story 7 = .ok (.invokestatic 110, 3) := dk_184 0 110 (dk_at dksX1_story_0 7 rfl rfl)
theorem dX1_story_10 : decode cX1_story 10 = .ok (.aload_n 0, 1) := dk_42 (dk_at dksX1_story_0 10 rfl rfl)
theorem dX1_story_11 : decode cX1_story 11 = .ok (.iload_n 2, 1) := dk_28 (dk_at dksX1_story_0 11 rfl rfl)
theorem dX1_story_12 : decode cX1_story 12 = .ok (.invokevirtual 429, 3) := dk_182 1 173 (dk_at dksX1_story_0 12 rfl rfl)
theorem dX1_story_15 : decode cX1_story 15 = .ok (.astore_n 3, 1) := dk_78 (dk_at dksX1_story_0 15 rfl rfl)
theorem dX1_story_16 : decode cX1_story 16 = .ok (.aload_n 3, 1) := dk_45 (dk_at dksX1_story_0 16 rfl rfl)
theorem dX1_story_17 : decode cX1_story 17 = .ok (.invokevirtual 449, 3) := dk_182 1 193 (dk_at dksX1_story_0 17 rfl rfl)
theorem dX1_story_20 : decode cX1_story 20 = .ok (.bipush 21, 2) := dk_16 21 (dk_at dksX1_story_0 20 rfl rfl)
theorem dX1_story_22 : decode cX1_story 22 = .ok (.if_icmp .ne 12, 3) := dk_160 0 12 (dk_at dksX1_story_1 0 rfl rfl)
theorem dX1_story_25 : decode cX1_story 25 = .ok (.aload_n 3, 1) := dk_45 (dk_at dksX1_story_1 3 rfl rfl)
theorem dX1_story_26 : decode cX1_story 26 = .ok (.bipush 9, 2) := dk_16 9 (dk_at dksX1_story_1 4 rfl rfl)
theorem dX1_story_28 : decode cX1_story 28 = .ok (.invokevirtual 450, 3) := dk_182 1 194 (dk_at dksX1_story_1 6 rfl rfl)
theorem dX1_story_31 : decode cX1_story 31 = .ok (.ifCond .ne 5, 3) := dk_154 0 5 (dk_at dksX1_story_1 9 rfl rfl)
theorem dX1_story_34 : decode cX1_story 34 = .ok (.iconst 0, 1) := dk_3 (dk_at dksX1_story_1 12 rfl rfl)
theorem dX1_story_35 : decode cX1_story 35 = .ok (.ireturn, 1) := dk_172 (dk_at dksX1_story_1 13 rfl rfl)
theorem dX1_story_36 : decode cX1_story 36 = .ok (.iconst 0, 1) := dk_3 (dk_at dksX1_story_1 14 rfl rfl)
theorem dX1_story_37 : decode cX1_story 37 = .ok (.istore 4, 2) := dk_54 4 (dk_at dksX1_story_1 15 rfl rfl)
theorem dX1_story_39 : decode cX1_story 39 = .ok (.iload 4, 2) := dk_21 4 (dk_at dksX1_story_1 17 rfl rfl)
theorem dX1_story_41 : decode cX1_story 41 = .ok (.bipush 21, 2) := dk_16 21 (dk_at dksX1_story_1 19 rfl rfl)
theorem dX1_story_43 : decode cX1_story 43 = .ok (.if_icmp .ge 28, 3) := dk_162 0 28 (dk_at dksX1_story_1 21 rfl rfl)
theorem dX1_story_46 : decode cX1_story 46 = .ok (.aload_n 0, 1) := dk_42 (dk_at dksX1_story_2 0 rfl rfl)
theorem dX1_story_47 : decode cX1_story 47 = .ok (.getfield 22, 3) := dk_180 0 22 (dk_at dksX1_story_2 1 rfl rfl)
theorem dX1_story_50 : decode cX1_story 50 = .ok (.getfield 453, 3) := dk_180 1 197 (dk_at dksX1_story_2 4 rfl rfl)
theorem dX1_story_53 : decode cX1_story 53 = .ok (.iload_n 1, 1) := dk_27 (dk_at dksX1_story_2 7 rfl rfl)
theorem dX1_story_54 : decode cX1_story 54 = .ok (.aaload, 1) := dk_50 (dk_at dksX1_story_2 8 rfl rfl)
theorem dX1_story_55 : decode cX1_story 55 = .ok (.iload 4, 2) := dk_21 4 (dk_at dksX1_story_2 9 rfl rfl)
theorem dX1_story_57 : decode cX1_story 57 = .ok (.aload_n 3, 1) := dk_45 (dk_at dksX1_story_2 11 rfl rfl)
theorem dX1_story_58 : decode cX1_story 58 = .ok (.iload 4, 2) := dk_21 4 (dk_at dksX1_story_2 12 rfl rfl)
theorem dX1_story_60 : decode cX1_story 60 = .ok (.invokevirtual 442, 3) := dk_182 1 186 (dk_at dksX1_story_2 14 rfl rfl)
theorem dX1_story_63 : decode cX1_story 63 = .ok (.l2i, 1) := dk_136 (dk_at dksX1_story_2 17 rfl rfl)
theorem dX1_story_64 : decode cX1_story 64 = .ok (.iastore, 1) := dk_79 (dk_at dksX1_story_2 18 rfl rfl)
theorem dX1_story_65 : decode cX1_story 65 = .ok (.iinc 4 1, 3) := dk_132 4 1 (dk_at dksX1_story_2 19 rfl rfl)
theorem dX1_story_68 : decode cX1_story 68 = .ok (.goto (-29), 3) := dk_167 255 227 (dk_at dksX1_story_3 0 rfl rfl)
theorem dX1_story_71 : decode cX1_story 71 = .ok (.iconst 1, 1) := dk_4 (dk_at dksX1_story_3 3 rfl rfl)
theorem dX1_story_72 : decode cX1_story 72 = .ok (.ireturn, 1) := dk_172 (dk_at dksX1_story_3 4 rfl rfl)
theorem dX1_story_73 : decode cX1_story 73 = .ok (.astore 4, 2) := dk_58 4 (dk_at dksX1_story_3 5 rfl rfl)
theorem dX1_story_75 : decode cX1_story 75 = .ok (.new 7, 3) := dk_187 0 7 (dk_at dksX1_story_3 7 rfl rfl)
theorem dX1_story_78 : decode cX1_story 78 = .ok (.dup, 1) := dk_89 (dk_at dksX1_story_3 10 rfl rfl)
theorem dX1_story_79 : decode cX1_story 79 = .ok (.invokespecial 9, 3) := dk_183 0 9 (dk_at dksX1_story_3 11 rfl rfl)
theorem dX1_story_82 : decode cX1_story 82 = .ok (.athrow, 1) := dk_191 (dk_at dksX1_story_3 14 rfl rfl)
abbrev cX1_trayOf : ByteArray := prog_1_method_60_code
def yX1_trayOf : MethodName := ⟨RX1, "trayOf", "(I)LPumpCrossing$Tray;"⟩
def dkwX1_trayOf_0 : List UInt8 := [27, 133, 9, 20, 0, 141, 184, 0, 106, 184, 0, 110, 42, 180, 0, 95, 27, 50, 176]
abbrev dktX1_trayOf_0 : List UInt8 := dkwX1_trayOf_0 ++ []
theorem dksX1_trayOf_0 : cX1_trayOf.data.toList.drop 0 = dktX1_trayOf_0 := by decide +kernel
theorem dX1_trayOf_0 : decode cX1_trayOf 0 = .ok (.iload_n 1, 1) := dk_27 (dk_at dksX1_trayOf_0 0 rfl rfl)
theorem dX1_trayOf_1 : decode cX1_trayOf 1 = .ok (.i2l, 1) := dk_133 (dk_at dksX1_trayOf_0 1 rfl rfl)
theorem dX1_trayOf_2 : decode cX1_trayOf 2 = .ok (.lconst 0, 1) := dk_9 (dk_at dksX1_trayOf_0 2 rfl rfl)
theorem dX1_trayOf_3 : decode cX1_trayOf 3 = .ok (.ldc2_w 141, 3) := dk_20 0 141 (dk_at dksX1_trayOf_0 3 rfl rfl)
theorem dX1_trayOf_6 : decode cX1_trayOf 6 = .ok (.invokestatic 106, 3) := dk_184 0 106 (dk_at dksX1_trayOf_0 6 rfl rfl)
theorem dX1_trayOf_9 : decode cX1_trayOf 9 = .ok (.invokestatic 110, 3) := dk_184 0 110 (dk_at dksX1_trayOf_0 9 rfl rfl)
theorem dX1_trayOf_12 : decode cX1_trayOf 12 = .ok (.aload_n 0, 1) := dk_42 (dk_at dksX1_trayOf_0 12 rfl rfl)
theorem dX1_trayOf_13 : decode cX1_trayOf 13 = .ok (.getfield 95, 3) := dk_180 0 95 (dk_at dksX1_trayOf_0 13 rfl rfl)
theorem dX1_trayOf_16 : decode cX1_trayOf 16 = .ok (.iload_n 1, 1) := dk_27 (dk_at dksX1_trayOf_0 16 rfl rfl)
theorem dX1_trayOf_17 : decode cX1_trayOf 17 = .ok (.aaload, 1) := dk_50 (dk_at dksX1_trayOf_0 17 rfl rfl)
theorem dX1_trayOf_18 : decode cX1_trayOf 18 = .ok (.areturn, 1) := dk_176 (dk_at dksX1_trayOf_0 18 rfl rfl)
abbrev cX1_rise : ByteArray := prog_1_method_64_code
def yX1_rise : MethodName := ⟨RX1, "rise", "(III)I"⟩
def dkwX1_rise_5 : List UInt8 := [182, 0, 162, 4, 100, 172]
abbrev dktX1_rise_5 : List UInt8 := dkwX1_rise_5 ++ []
def dkwX1_rise_4 : List UInt8 := [184, 1, 203, 42, 180, 0, 22, 180, 1, 200, 25, 6, 182, 0, 149, 87, 42, 180, 0, 22, 180, 1, 200]
abbrev dktX1_rise_4 : List UInt8 := dkwX1_rise_4 ++ dktX1_rise_5
def dkwX1_rise_3 : List UInt8 := [182, 0, 162, 16, 6, 160, 0, 5, 2, 172, 21, 5, 188, 10, 58, 6, 25, 4, 3, 25, 6, 3, 21, 5]
abbrev dktX1_rise_3 : List UInt8 := dkwX1_rise_3 ++ dktX1_rise_4
def dkwX1_rise_2 : List UInt8 := [9, 20, 0, 157, 184, 0, 106, 184, 0, 143, 132, 5, 1, 167, 255, 215, 42, 180, 0, 22, 180, 1, 200]
abbrev dktX1_rise_2 : List UInt8 := dkwX1_rise_2 ++ dktX1_rise_3
def dkwX1_rise_1 : List UInt8 := [190, 162, 0, 39, 21, 5, 153, 0, 12, 25, 4, 21, 5, 46, 2, 159, 0, 25, 25, 4, 21, 5, 46, 133]
abbrev dktX1_rise_1 : List UInt8 := dkwX1_rise_1 ++ dktX1_rise_2
def dkwX1_rise_0 : List UInt8 := [6, 188, 10, 89, 3, 27, 79, 89, 4, 28, 79, 89, 5, 29, 79, 58, 4, 3, 54, 5, 21, 5, 25, 4]
abbrev dktX1_rise_0 : List UInt8 := dkwX1_rise_0 ++ dktX1_rise_1
theorem dksX1_rise_0 : cX1_rise.data.toList.drop 0 = dktX1_rise_0 := by decide +kernel
theorem dksX1_rise_1 : cX1_rise.data.toList.drop 24 = dktX1_rise_1 := dk_seg dksX1_rise_0 24 rfl rfl
theorem dksX1_rise_2 : cX1_rise.data.toList.drop 48 = dktX1_rise_2 := dk_seg dksX1_rise_1 24 rfl rfl
theorem dksX1_rise_3 : cX1_rise.data.toList.drop 71 = dktX1_rise_3 := dk_seg dksX1_rise_2 23 rfl rfl
theorem dksX1_rise_4 : cX1_rise.data.toList.drop 95 = dktX1_rise_4 := dk_seg dksX1_rise_3 24 rfl rfl
theorem dksX1_rise_5 : cX1_rise.data.toList.drop 118 = dktX1_rise_5 := dk_seg dksX1_rise_4 23 rfl rfl
theorem dX1_rise_0 : decode cX1_rise 0 = .ok (.iconst 3, 1) := dk_6 (dk_at dksX1_rise_0 0 rfl rfl)
theorem dX1_rise_1 : decode cX1_rise 1 = .ok (.newarray .int, 2) := dk_188_10 (dk_at dksX1_rise_0 1 rfl rfl)
theorem dX1_rise_3 : decode cX1_rise 3 = .ok (.dup, 1) := dk_89 (dk_at dksX1_rise_0 3 rfl rfl)
theorem dX1_rise_4 : decode cX1_rise 4 = .ok (.iconst 0, 1) := dk_3 (dk_at dksX1_rise_0 4 rfl rfl)
theorem dX1_rise_5 : decode cX1_rise 5 = .ok (.iload_n 1, 1) := dk_27 (dk_at dksX1_rise_0 5 rfl rfl)
theorem dX1_rise_6 : decode cX1_rise 6 = .ok (.iastore, 1) := dk_79 (dk_at dksX1_rise_0 6 rfl rfl)
theorem dX1_rise_7 : decode cX1_rise 7 = .ok (.dup, 1) := dk_89 (dk_at dksX1_rise_0 7 rfl rfl)
theorem dX1_rise_8 : decode cX1_rise 8 = .ok (.iconst 1, 1) := dk_4 (dk_at dksX1_rise_0 8 rfl rfl)
theorem dX1_rise_9 : decode cX1_rise 9 = .ok (.iload_n 2, 1) := dk_28 (dk_at dksX1_rise_0 9 rfl rfl)
theorem dX1_rise_10 : decode cX1_rise 10 = .ok (.iastore, 1) := dk_79 (dk_at dksX1_rise_0 10 rfl rfl)
theorem dX1_rise_11 : decode cX1_rise 11 = .ok (.dup, 1) := dk_89 (dk_at dksX1_rise_0 11 rfl rfl)
theorem dX1_rise_12 : decode cX1_rise 12 = .ok (.iconst 2, 1) := dk_5 (dk_at dksX1_rise_0 12 rfl rfl)
theorem dX1_rise_13 : decode cX1_rise 13 = .ok (.iload_n 3, 1) := dk_29 (dk_at dksX1_rise_0 13 rfl rfl)
theorem dX1_rise_14 : decode cX1_rise 14 = .ok (.iastore, 1) := dk_79 (dk_at dksX1_rise_0 14 rfl rfl)
theorem dX1_rise_15 : decode cX1_rise 15 = .ok (.astore 4, 2) := dk_58 4 (dk_at dksX1_rise_0 15 rfl rfl)
theorem dX1_rise_17 : decode cX1_rise 17 = .ok (.iconst 0, 1) := dk_3 (dk_at dksX1_rise_0 17 rfl rfl)
theorem dX1_rise_18 : decode cX1_rise 18 = .ok (.istore 5, 2) := dk_54 5 (dk_at dksX1_rise_0 18 rfl rfl)
theorem dX1_rise_20 : decode cX1_rise 20 = .ok (.iload 5, 2) := dk_21 5 (dk_at dksX1_rise_0 20 rfl rfl)
theorem dX1_rise_22 : decode cX1_rise 22 = .ok (.aload 4, 2) := dk_25 4 (dk_at dksX1_rise_0 22 rfl rfl)
theorem dX1_rise_24 : decode cX1_rise 24 = .ok (.arraylength, 1) := dk_190 (dk_at dksX1_rise_1 0 rfl rfl)
theorem dX1_rise_25 : decode cX1_rise 25 = .ok (.if_icmp .ge 39, 3) := dk_162 0 39 (dk_at dksX1_rise_1 1 rfl rfl)
theorem dX1_rise_28 : decode cX1_rise 28 = .ok (.iload 5, 2) := dk_21 5 (dk_at dksX1_rise_1 4 rfl rfl)
theorem dX1_rise_30 : decode cX1_rise 30 = .ok (.ifCond .eq 12, 3) := dk_153 0 12 (dk_at dksX1_rise_1 6 rfl rfl)
theorem dX1_rise_33 : decode cX1_rise 33 = .ok (.aload 4, 2) := dk_25 4 (dk_at dksX1_rise_1 9 rfl rfl)
theorem dX1_rise_35 : decode cX1_rise 35 = .ok (.iload 5, 2) := dk_21 5 (dk_at dksX1_rise_1 11 rfl rfl)
theorem dX1_rise_37 : decode cX1_rise 37 = .ok (.iaload, 1) := dk_46 (dk_at dksX1_rise_1 13 rfl rfl)
theorem dX1_rise_38 : decode cX1_rise 38 = .ok (.iconst (-1), 1) := dk_2 (dk_at dksX1_rise_1 14 rfl rfl)
theorem dX1_rise_39 : decode cX1_rise 39 = .ok (.if_icmp .eq 25, 3) := dk_159 0 25 (dk_at dksX1_rise_1 15 rfl rfl)
theorem dX1_rise_42 : decode cX1_rise 42 = .ok (.aload 4, 2) := dk_25 4 (dk_at dksX1_rise_1 18 rfl rfl)
theorem dX1_rise_44 : decode cX1_rise 44 = .ok (.iload 5, 2) := dk_21 5 (dk_at dksX1_rise_1 20 rfl rfl)
theorem dX1_rise_46 : decode cX1_rise 46 = .ok (.iaload, 1) := dk_46 (dk_at dksX1_rise_1 22 rfl rfl)
theorem dX1_rise_47 : decode cX1_rise 47 = .ok (.i2l, 1) := dk_133 (dk_at dksX1_rise_1 23 rfl rfl)
theorem dX1_rise_48 : decode cX1_rise 48 = .ok (.lconst 0, 1) := dk_9 (dk_at dksX1_rise_2 0 rfl rfl)
theorem dX1_rise_49 : decode cX1_rise 49 = .ok (.ldc2_w 157, 3) := dk_20 0 157 (dk_at dksX1_rise_2 1 rfl rfl)
theorem dX1_rise_52 : decode cX1_rise 52 = .ok (.invokestatic 106, 3) := dk_184 0 106 (dk_at dksX1_rise_2 4 rfl rfl)
theorem dX1_rise_55 : decode cX1_rise 55 = .ok (.invokestatic 143, 3) := dk_184 0 143 (dk_at dksX1_rise_2 7 rfl rfl)
theorem dX1_rise_58 : decode cX1_rise 58 = .ok (.iinc 5 1, 3) := dk_132 5 1 (dk_at dksX1_rise_2 10 rfl rfl)
theorem dX1_rise_61 : decode cX1_rise 61 = .ok (.goto (-41), 3) := dk_167 255 215 (dk_at dksX1_rise_2 13 rfl rfl)
theorem dX1_rise_64 : decode cX1_rise 64 = .ok (.aload_n 0, 1) := dk_42 (dk_at dksX1_rise_2 16 rfl rfl)
theorem dX1_rise_65 : decode cX1_rise 65 = .ok (.getfield 22, 3) := dk_180 0 22 (dk_at dksX1_rise_2 17 rfl rfl)
theorem dX1_rise_68 : decode cX1_rise 68 = .ok (.getfield 456, 3) := dk_180 1 200 (dk_at dksX1_rise_2 20 rfl rfl)
theorem dX1_rise_71 : decode cX1_rise 71 = .ok (.invokevirtual 162, 3) := dk_182 0 162 (dk_at dksX1_rise_3 0 rfl rfl)
theorem dX1_rise_74 : decode cX1_rise 74 = .ok (.bipush 6, 2) := dk_16 6 (dk_at dksX1_rise_3 3 rfl rfl)
theorem dX1_rise_76 : decode cX1_rise 76 = .ok (.if_icmp .ne 5, 3) := dk_160 0 5 (dk_at dksX1_rise_3 5 rfl rfl)
theorem dX1_rise_79 : decode cX1_rise 79 = .ok (.iconst (-1), 1) := dk_2 (dk_at dksX1_rise_3 8 rfl rfl)
theorem dX1_rise_80 : decode cX1_rise 80 = .ok (.ireturn, 1) := dk_172 (dk_at dksX1_rise_3 9 rfl rfl)
theorem dX1_rise_81 : decode cX1_rise 81 = .ok (.iload 5, 2) := dk_21 5 (dk_at dksX1_rise_3 10 rfl rfl)
theorem dX1_rise_83 : decode cX1_rise 83 = .ok (.newarray .int, 2) := dk_188_10 (dk_at dksX1_rise_3 12 rfl rfl)
theorem dX1_rise_85 : decode cX1_rise 85 = .ok (.astore 6, 2) := dk_58 6 (dk_at dksX1_rise_3 14 rfl rfl)
theorem dX1_rise_87 : decode cX1_rise 87 = .ok (.aload 4, 2) := dk_25 4 (dk_at dksX1_rise_3 16 rfl rfl)
theorem dX1_rise_89 : decode cX1_rise 89 = .ok (.iconst 0, 1) := dk_3 (dk_at dksX1_rise_3 18 rfl rfl)
theorem dX1_rise_90 : decode cX1_rise 90 = .ok (.aload 6, 2) := dk_25 6 (dk_at dksX1_rise_3 19 rfl rfl)
theorem dX1_rise_92 : decode cX1_rise 92 = .ok (.iconst 0, 1) := dk_3 (dk_at dksX1_rise_3 21 rfl rfl)
theorem dX1_rise_93 : decode cX1_rise 93 = .ok (.iload 5, 2) := dk_21 5 (dk_at dksX1_rise_3 22 rfl rfl)
theorem dX1_rise_95 : decode cX1_rise 95 = .ok (.invokestatic 459, 3) := dk_184 1 203 (dk_at dksX1_rise_4 0 rfl rfl)
theorem dX1_rise_98 : decode cX1_rise 98 = .ok (.aload_n 0, 1) := dk_42 (dk_at dksX1_rise_4 3 rfl rfl)
theorem dX1_rise_99 : decode cX1_rise 99 = .ok (.getfield 22, 3) := dk_180 0 22 (dk_at dksX1_rise_4 4 rfl rfl)
theorem dX1_rise_102 : decode cX1_rise 102 = .ok (.getfield 456, 3) := dk_180 1 200 (dk_at dksX1_rise_4 7 rfl rfl)
theorem dX1_rise_105 : decode cX1_rise 105 = .ok (.aload 6, 2) := dk_25 6 (dk_at dksX1_rise_4 10 rfl rfl)
theorem dX1_rise_107 : decode cX1_rise 107 = .ok (.invokevirtual 149, 3) := dk_182 0 149 (dk_at dksX1_rise_4 12 rfl rfl)
theorem dX1_rise_110 : decode cX1_rise 110 = .ok (.pop, 1) := dk_87 (dk_at dksX1_rise_4 15 rfl rfl)
theorem dX1_rise_111 : decode cX1_rise 111 = .ok (.aload_n 0, 1) := dk_42 (dk_at dksX1_rise_4 16 rfl rfl)
theorem dX1_rise_112 : decode cX1_rise 112 = .ok (.getfield 22, 3) := dk_180 0 22 (dk_at dksX1_rise_4 17 rfl rfl)
theorem dX1_rise_115 : decode cX1_rise 115 = .ok (.getfield 456, 3) := dk_180 1 200 (dk_at dksX1_rise_4 20 rfl rfl)
theorem dX1_rise_118 : decode cX1_rise 118 = .ok (.invokevirtual 162, 3) := dk_182 0 162 (dk_at dksX1_rise_5 0 rfl rfl)
theorem dX1_rise_121 : decode cX1_rise 121 = .ok (.iconst 1, 1) := dk_4 (dk_at dksX1_rise_5 3 rfl rfl)
theorem dX1_rise_122 : decode cX1_rise 122 = .ok (.isub, 1) := dk_100 (dk_at dksX1_rise_5 4 rfl rfl)
theorem dX1_rise_123 : decode cX1_rise 123 = .ok (.ireturn, 1) := dk_172 (dk_at dksX1_rise_5 5 rfl rfl)
abbrev cX1_fill : ByteArray := prog_1_method_67_code
def yX1_fill : MethodName := ⟨RX1, "fill", "(IIII)I"⟩
def dkwX1_fill_13 : List UInt8 := [172, 58, 6, 187, 0, 7, 89, 183, 0, 9, 191]
abbrev dktX1_fill_13 : List UInt8 := dkwX1_fill_13 ++ []
def dkwX1_fill_12 : List UInt8 := [159, 0, 9, 132, 8, 1, 167, 255, 228, 21, 7, 21, 8, 96, 54, 7, 132, 9, 1, 167, 255, 190, 21, 8]
abbrev dktX1_fill_12 : List UInt8 := dkwX1_fill_12 ++ dktX1_fill_13
def dkwX1_fill_11 : List UInt8 := [54, 8, 42, 25, 5, 21, 9, 21, 7, 21, 8, 182, 1, 215, 42, 180, 0, 99, 21, 9, 50, 21, 7, 46]
abbrev dktX1_fill_11 : List UInt8 := dkwX1_fill_11 ++ dktX1_fill_12
def dkwX1_fill_10 : List UInt8 := [21, 9, 21, 4, 163, 0, 65, 21, 7, 21, 9, 154, 0, 7, 3, 167, 0, 4, 4, 100, 54, 7, 3]
abbrev dktX1_fill_10 : List UInt8 := dkwX1_fill_10 ++ dktX1_fill_11
def dkwX1_fill_9 : List UInt8 := [9, 21, 6, 4, 100, 133, 184, 0, 106, 154, 0, 5, 2, 172, 29, 54, 7, 3, 54, 8, 3, 54, 9]
abbrev dktX1_fill_9 : List UInt8 := dkwX1_fill_9 ++ dktX1_fill_10
def dkwX1_fill_8 : List UInt8 := [132, 7, 255, 167, 255, 167, 21, 4, 2, 160, 0, 12, 42, 180, 0, 99, 3, 50, 29, 46, 172, 21, 4, 133]
abbrev dktX1_fill_8 : List UInt8 := dkwX1_fill_8 ++ dktX1_fill_9
def dkwX1_fill_7 : List UInt8 := [21, 8, 21, 9, 182, 1, 215, 184, 0, 238, 79, 132, 9, 1, 167, 255, 209, 132, 8, 1, 167, 255, 181]
abbrev dktX1_fill_7 : List UInt8 := dkwX1_fill_7 ++ dktX1_fill_8
def dkwX1_fill_6 : List UInt8 := [180, 0, 99, 21, 7, 50, 21, 8, 42, 180, 0, 99, 21, 7, 50, 21, 8, 46, 42, 25, 5, 21, 7]
abbrev dktX1_fill_6 : List UInt8 := dkwX1_fill_6 ++ dktX1_fill_7
def dkwX1_fill_5 : List UInt8 := [21, 7, 50, 21, 8, 19, 1, 210, 79, 3, 54, 9, 21, 8, 21, 9, 96, 28, 163, 0, 44, 42]
abbrev dktX1_fill_5 : List UInt8 := dkwX1_fill_5 ++ dktX1_fill_6
def dkwX1_fill_4 : List UInt8 := [21, 6, 4, 100, 54, 7, 21, 7, 155, 0, 90, 3, 54, 8, 21, 8, 28, 163, 0, 75, 42, 180, 0, 99]
abbrev dktX1_fill_4 : List UInt8 := dkwX1_fill_4 ++ dktX1_fill_5
def dkwX1_fill_3 : List UInt8 := [21, 7, 28, 163, 0, 20, 42, 180, 0, 99, 21, 6, 50, 21, 7, 3, 79, 132, 7, 1, 167, 255, 236]
abbrev dktX1_fill_3 : List UInt8 := dkwX1_fill_3 ++ dktX1_fill_4
def dkwX1_fill_2 : List UInt8 := [153, 0, 17, 25, 5, 16, 99, 182, 1, 194, 153, 0, 7, 4, 167, 0, 4, 3, 184, 0, 143, 3, 54, 7]
abbrev dktX1_fill_2 : List UInt8 := dkwX1_fill_2 ++ dktX1_fill_3
def dkwX1_fill_1 : List UInt8 := [153, 0, 41, 29, 133, 9, 28, 133, 184, 0, 106, 153, 0, 30, 21, 6, 133, 10, 20, 1, 213, 184, 0, 106]
abbrev dktX1_fill_1 : List UInt8 := dkwX1_fill_1 ++ dktX1_fill_2
def dkwX1_fill_0 : List UInt8 := [42, 27, 182, 1, 173, 58, 5, 25, 5, 182, 1, 193, 54, 6, 28, 133, 10, 20, 1, 211, 184, 0, 106]
abbrev dktX1_fill_0 : List UInt8 := dkwX1_fill_0 ++ dktX1_fill_1
theorem dksX1_fill_0 : cX1_fill.data.toList.drop 0 = dktX1_fill_0 := by decide +kernel
theorem dksX1_fill_1 : cX1_fill.data.toList.drop 23 = dktX1_fill_1 := dk_seg dksX1_fill_0 23 rfl rfl
theorem dksX1_fill_2 : cX1_fill.data.toList.drop 47 = dktX1_fill_2 := dk_seg dksX1_fill_1 24 rfl rfl
theorem dksX1_fill_3 : cX1_fill.data.toList.drop 71 = dktX1_fill_3 := dk_seg dksX1_fill_2 24 rfl rfl
theorem dksX1_fill_4 : cX1_fill.data.toList.drop 94 = dktX1_fill_4 := dk_seg dksX1_fill_3 23 rfl rfl
theorem dksX1_fill_5 : cX1_fill.data.toList.drop 118 = dktX1_fill_5 := dk_seg dksX1_fill_4 24 rfl rfl
theorem dksX1_fill_6 : cX1_fill.data.toList.drop 140 = dktX1_fill_6 := dk_seg dksX1_fill_5 22 rfl rfl
theorem dksX1_fill_7 : cX1_fill.data.toList.drop 163 = dktX1_fill_7 := dk_seg dksX1_fill_6 23 rfl rfl
theorem dksX1_fill_8 : cX1_fill.data.toList.drop 186 = dktX1_fill_8 := dk_seg dksX1_fill_7 23 rfl rfl
theorem dksX1_fill_9 : cX1_fill.data.toList.drop 210 = dktX1_fill_9 := dk_seg dksX1_fill_8 24 rfl rfl
theorem dksX1_fill_10 : cX1_fill.data.toList.drop 233 = dktX1_fill_10 := dk_seg dksX1_fill_9 23 rfl rfl
theorem dksX1_fill_11 : cX1_fill.data.toList.drop 256 = dktX1_fill_11 := dk_seg dksX1_fill_10 23 rfl rfl
theorem dksX1_fill_12 : cX1_fill.data.toList.drop 280 = dktX1_fill_12 := dk_seg dksX1_fill_11 24 rfl rfl
theorem dksX1_fill_13 : cX1_fill.data.toList.drop 304 = dktX1_fill_13 := dk_seg dksX1_fill_12 24 rfl rfl
theorem dX1_fill_0 : decode cX1_fill 0 = .ok (.aload_n 0, 1) := dk_42 (dk_at dksX1_fill_0 0 rfl rfl)
theorem dX1_fill_1 : decode cX1_fill 1 = .ok (.iload_n 1, 1) := dk_27 (dk_at dksX1_fill_0 1 rfl rfl)
theorem dX1_fill_2 : decode cX1_fill 2 = .ok (.invokevirtual 429, 3) := dk_182 1 173 (dk_at dksX1_fill_0 2 rfl rfl)
theorem dX1_fill_5 : decode cX1_fill 5 = .ok (.astore 5, 2) := dk_58 5 (dk_at dksX1_fill_0 5 rfl rfl)
theorem dX1_fill_7 : decode cX1_fill 7 = .ok (.aload 5, 2) := dk_25 5 (dk_at dksX1_fill_0 7 rfl rfl)
theorem dX1_fill_9 : decode cX1_fill 9 = .ok (.invokevirtual 449, 3) := dk_182 1 193 (dk_at dksX1_fill_0 9 rfl rfl)
theorem dX1_fill_12 : decode cX1_fill 12 = .ok (.istore 6, 2) := dk_54 6 (dk_at dksX1_fill_0 12 rfl rfl)
theorem dX1_fill_14 : decode cX1_fill 14 = .ok (.iload_n 2, 1) := dk_28 (dk_at dksX1_fill_0 14 rfl rfl)
theorem dX1_fill_15 : decode cX1_fill 15 = .ok (.i2l, 1) := dk_133 (dk_at dksX1_fill_0 15 rfl rfl)
theorem dX1_fill_16 : decode cX1_fill 16 = .ok (.lconst 1, 1) := dk_10 (dk_at dksX1_fill_0 16 rfl rfl)
theorem dX1_fill_17 : decode cX1_fill 17 = .ok (.ldc2_w 467, 3) := dk_20 1 211 (dk_at dksX1_fill_0 17 rfl rfl)
theorem dX1_fill_20 : decode cX1_fill 20 = .ok (.invokestatic 106, 3) := dk_184 0 106 (dk_at dksX1_fill_0 20 rfl rfl)
theorem dX1_fill_23 : decode cX1_fill 23 = .ok (.ifCond .eq 41, 3) := dk_153 0 41 (dk_at dksX1_fill_1 0 rfl rfl)
theorem dX1_fill_26 : decode cX1_fill 26 = .ok (.iload_n 3, 1) := dk_29 (dk_at dksX1_fill_1 3 rfl rfl)
theorem dX1_fill_27 : decode cX1_fill 27 = .ok (.i2l, 1) := dk_133 (dk_at dksX1_fill_1 4 rfl rfl)
theorem dX1_fill_28 : decode cX1_fill 28 = .ok (.lconst 0, 1) := dk_9 (dk_at dksX1_fill_1 5 rfl rfl)
theorem dX1_fill_29 : decode cX1_fill 29 = .ok (.iload_n 2, 1) := dk_28 (dk_at dksX1_fill_1 6 rfl rfl)
theorem dX1_fill_30 : decode cX1_fill 30 = .ok (.i2l, 1) := dk_133 (dk_at dksX1_fill_1 7 rfl rfl)
theorem dX1_fill_31 : decode cX1_fill 31 = .ok (.invokestatic 106, 3) := dk_184 0 106 (dk_at dksX1_fill_1 8 rfl rfl)
theorem dX1_fill_34 : decode cX1_fill 34 = .ok (.ifCond .eq 30, 3) := dk_153 0 30 (dk_at dksX1_fill_1 11 rfl rfl)
theorem dX1_fill_37 : decode cX1_fill 37 = .ok (.iload 6, 2) := dk_21 6 (dk_at dksX1_fill_1 14 rfl rfl)
theorem dX1_fill_39 : decode cX1_fill 39 = .ok (.i2l, 1) := dk_133 (dk_at dksX1_fill_1 16 rfl rfl)
theorem dX1_fill_40 : decode cX1_fill 40 = .ok (.lconst 1, 1) := dk_10 (dk_at dksX1_fill_1 17 rfl rfl)
theorem dX1_fill_41 : decode cX1_fill 41 = .ok (.ldc2_w 469, 3) := dk_20 1 213 (dk_at dksX1_fill_1 18 rfl rfl)
theorem dX1_fill_44 : decode cX1_fill 44 = .ok (.invokestatic 106, 3) := dk_184 0 106 (dk_at dksX1_fill_1 21 rfl rfl)
theorem dX1_fill_47 : decode cX1_fill 47 = .ok (.ifCond .eq 17, 3) := dk_153 0 17 (dk_at dksX1_fill_2 0 rfl rfl)
theorem dX1_fill_50 : decode cX1_fill 50 = .ok (.aload 5, 2) := dk_25 5 (dk_at dksX1_fill_2 3 rfl rfl)
theorem dX1_fill_52 : decode cX1_fill 52 = .ok (.bipush 99, 2) := dk_16 99 (dk_at dksX1_fill_2 5 rfl rfl)
theorem dX1_fill_54 : decode cX1_fill 54 = .ok (.invokevirtual 450, 3) := dk_182 1 194 (dk_at dksX1_fill_2 7 rfl rfl)
theorem dX1_fill_57 : decode cX1_fill 57 = .ok (.ifCond .eq 7, 3) := dk_153 0 7 (dk_at dksX1_fill_2 10 rfl rfl)
theorem dX1_fill_60 : decode cX1_fill 60 = .ok (.iconst 1, 1) := dk_4 (dk_at dksX1_fill_2 13 rfl rfl)
theorem dX1_fill_61 : decode cX1_fill 61 = .ok (.goto 4, 3) := dk_167 0 4 (dk_at dksX1_fill_2 14 rfl rfl)
theorem dX1_fill_64 : decode cX1_fill 64 = .ok (.iconst 0, 1) := dk_3 (dk_at dksX1_fill_2 17 rfl rfl)
theorem dX1_fill_65 : decode cX1_fill 65 = .ok (.invokestatic 143, 3) := dk_184 0 143 (dk_at dksX1_fill_2 18 rfl rfl)
theorem dX1_fill_68 : decode cX1_fill 68 = .ok (.iconst 0, 1) := dk_3 (dk_at dksX1_fill_2 21 rfl rfl)
theorem dX1_fill_69 : decode cX1_fill 69 = .ok (.istore 7, 2) := dk_54 7 (dk_at dksX1_fill_2 22 rfl rfl)
theorem dX1_fill_71 : decode cX1_fill 71 = .ok (.iload 7, 2) := dk_21 7 (dk_at dksX1_fill_3 0 rfl rfl)
theorem dX1_fill_73 : decode cX1_fill 73 = .ok (.iload_n 2, 1) := dk_28 (dk_at dksX1_fill_3 2 rfl rfl)
theorem dX1_fill_74 : decode cX1_fill 74 = .ok (.if_icmp .gt 20, 3) := dk_163 0 20 (dk_at dksX1_fill_3 3 rfl rfl)
theorem dX1_fill_77 : decode cX1_fill 77 = .ok (.aload_n 0, 1) := dk_42 (dk_at dksX1_fill_3 6 rfl rfl)
theorem dX1_fill_78 : decode cX1_fill 78 = .ok (.getfield 99, 3) := dk_180 0 99 (dk_at dksX1_fill_3 7 rfl rfl)
theorem dX1_fill_81 : decode cX1_fill 81 = .ok (.iload 6, 2) := dk_21 6 (dk_at dksX1_fill_3 10 rfl rfl)
theorem dX1_fill_83 : decode cX1_fill 83 = .ok (.aaload, 1) := dk_50 (dk_at dksX1_fill_3 12 rfl rfl)
theorem dX1_fill_84 : decode cX1_fill 84 = .ok (.iload 7, 2) := dk_21 7 (dk_at dksX1_fill_3 13 rfl rfl)
theorem dX1_fill_86 : decode cX1_fill 86 = .ok (.iconst 0, 1) := dk_3 (dk_at dksX1_fill_3 15 rfl rfl)
theorem dX1_fill_87 : decode cX1_fill 87 = .ok (.iastore, 1) := dk_79 (dk_at dksX1_fill_3 16 rfl rfl)
theorem dX1_fill_88 : decode cX1_fill 88 = .ok (.iinc 7 1, 3) := dk_132 7 1 (dk_at dksX1_fill_3 17 rfl rfl)
theorem dX1_fill_91 : decode cX1_fill 91 = .ok (.goto (-20), 3) := dk_167 255 236 (dk_at dksX1_fill_3 20 rfl rfl)
theorem dX1_fill_94 : decode cX1_fill 94 = .ok (.iload 6, 2) := dk_21 6 (dk_at dksX1_fill_4 0 rfl rfl)
theorem dX1_fill_96 : decode cX1_fill 96 = .ok (.iconst 1, 1) := dk_4 (dk_at dksX1_fill_4 2 rfl rfl)
theorem dX1_fill_97 : decode cX1_fill 97 = .ok (.isub, 1) := dk_100 (dk_at dksX1_fill_4 3 rfl rfl)
theorem dX1_fill_98 : decode cX1_fill 98 = .ok (.istore 7, 2) := dk_54 7 (dk_at dksX1_fill_4 4 rfl rfl)
theorem dX1_fill_100 : decode cX1_fill 100 = .ok (.iload 7, 2) := dk_21 7 (dk_at dksX1_fill_4 6 rfl rfl)
theorem dX1_fill_102 : decode cX1_fill 102 = .ok (.ifCond .lt 90, 3) := dk_155 0 90 (dk_at dksX1_fill_4 8 rfl rfl)
theorem dX1_fill_105 : decode cX1_fill 105 = .ok (.iconst 0, 1) := dk_3 (dk_at dksX1_fill_4 11 rfl rfl)
theorem dX1_fill_106 : decode cX1_fill 106 = .ok (.istore 8, 2) := dk_54 8 (dk_at dksX1_fill_4 12 rfl rfl)
theorem dX1_fill_108 : decode cX1_fill 108 = .ok (.iload 8, 2) := dk_21 8 (dk_at dksX1_fill_4 14 rfl rfl)
theorem dX1_fill_110 : decode cX1_fill 110 = .ok (.iload_n 2, 1) := dk_28 (dk_at dksX1_fill_4 16 rfl rfl)
theorem dX1_fill_111 : decode cX1_fill 111 = .ok (.if_icmp .gt 75, 3) := dk_163 0 75 (dk_at dksX1_fill_4 17 rfl rfl)
theorem dX1_fill_114 : decode cX1_fill 114 = .ok (.aload_n 0, 1) := dk_42 (dk_at dksX1_fill_4 20 rfl rfl)
theorem dX1_fill_115 : decode cX1_fill 115 = .ok (.getfield 99, 3) := dk_180 0 99 (dk_at dksX1_fill_4 21 rfl rfl)
theorem dX1_fill_118 : decode cX1_fill 118 = .ok (.iload 7, 2) := dk_21 7 (dk_at dksX1_fill_5 0 rfl rfl)
theorem dX1_fill_120 : decode cX1_fill 120 = .ok (.aaload, 1) := dk_50 (dk_at dksX1_fill_5 2 rfl rfl)
theorem dX1_fill_121 : decode cX1_fill 121 = .ok (.iload 8, 2) := dk_21 8 (dk_at dksX1_fill_5 3 rfl rfl)
theorem dX1_fill_123 : decode cX1_fill 123 = .ok (.ldc_w 466, 3) := dk_19 1 210 (dk_at dksX1_fill_5 5 rfl rfl)
theorem dX1_fill_126 : decode cX1_fill 126 = .ok (.iastore, 1) := dk_79 (dk_at dksX1_fill_5 8 rfl rfl)
theorem dX1_fill_127 : decode cX1_fill 127 = .ok (.iconst 0, 1) := dk_3 (dk_at dksX1_fill_5 9 rfl rfl)
theorem dX1_fill_128 : decode cX1_fill 128 = .ok (.istore 9, 2) := dk_54 9 (dk_at dksX1_fill_5 10 rfl rfl)
theorem dX1_fill_130 : decode cX1_fill 130 = .ok (.iload 8, 2) := dk_21 8 (dk_at dksX1_fill_5 12 rfl rfl)
theorem dX1_fill_132 : decode cX1_fill 132 = .ok (.iload 9, 2) := dk_21 9 (dk_at dksX1_fill_5 14 rfl rfl)
theorem dX1_fill_134 : decode cX1_fill 134 = .ok (.iadd, 1) := dk_96 (dk_at dksX1_fill_5 16 rfl rfl)
theorem dX1_fill_135 : decode cX1_fill 135 = .ok (.iload_n 2, 1) := dk_28 (dk_at dksX1_fill_5 17 rfl rfl)
theorem dX1_fill_136 : decode cX1_fill 136 = .ok (.if_icmp .gt 44, 3) := dk_163 0 44 (dk_at dksX1_fill_5 18 rfl rfl)
theorem dX1_fill_139 : decode cX1_fill 139 = .ok (.aload_n 0, 1) := dk_42 (dk_at dksX1_fill_5 21 rfl rfl)
theorem dX1_fill_140 : decode cX1_fill 140 = .ok (.getfield 99, 3) := dk_180 0 99 (dk_at dksX1_fill_6 0 rfl rfl)
theorem dX1_fill_143 : decode cX1_fill 143 = .ok (.iload 7, 2) := dk_21 7 (dk_at dksX1_fill_6 3 rfl rfl)
theorem dX1_fill_145 : decode cX1_fill 145 = .ok (.aaload, 1) := dk_50 (dk_at dksX1_fill_6 5 rfl rfl)
theorem dX1_fill_146 : decode cX1_fill 146 = .ok (.iload 8, 2) := dk_21 8 (dk_at dksX1_fill_6 6 rfl rfl)
theorem dX1_fill_148 : decode cX1_fill 148 = .ok (.aload_n 0, 1) := dk_42 (dk_at dksX1_fill_6 8 rfl rfl)
theorem dX1_fill_149 : decode cX1_fill 149 = .ok (.getfield 99, 3) := dk_180 0 99 (dk_at dksX1_fill_6 9 rfl rfl)
theorem dX1_fill_152 : decode cX1_fill 152 = .ok (.iload 7, 2) := dk_21 7 (dk_at dksX1_fill_6 12 rfl rfl)
theorem dX1_fill_154 : decode cX1_fill 154 = .ok (.aaload, 1) := dk_50 (dk_at dksX1_fill_6 14 rfl rfl)
theorem dX1_fill_155 : decode cX1_fill 155 = .ok (.iload 8, 2) := dk_21 8 (dk_at dksX1_fill_6 15 rfl rfl)
theorem dX1_fill_157 : decode cX1_fill 157 = .ok (.iaload, 1) := dk_46 (dk_at dksX1_fill_6 17 rfl rfl)
theorem dX1_fill_158 : decode cX1_fill 158 = .ok (.aload_n 0, 1) := dk_42 (dk_at dksX1_fill_6 18 rfl rfl)
theorem dX1_fill_159 : decode cX1_fill 159 = .ok (.aload 5, 2) := dk_25 5 (dk_at dksX1_fill_6 19 rfl rfl)
theorem dX1_fill_161 : decode cX1_fill 161 = .ok (.iload 7, 2) := dk_21 7 (dk_at dksX1_fill_6 21 rfl rfl)
theorem dX1_fill_163 : decode cX1_fill 163 = .ok (.iload 8, 2) := dk_21 8 (dk_at dksX1_fill_7 0 rfl rfl)
theorem dX1_fill_165 : decode cX1_fill 165 = .ok (.iload 9, 2) := dk_21 9 (dk_at dksX1_fill_7 2 rfl rfl)
theorem dX1_fill_167 : decode cX1_fill 167 = .ok (.invokevirtual 471, 3) := dk_182 1 215 (dk_at dksX1_fill_7 4 rfl rfl)
theorem dX1_fill_170 : decode cX1_fill 170 = .ok (.invokestatic 238, 3) := dk_184 0 238 (dk_at dksX1_fill_7 7 rfl rfl)
theorem dX1_fill_173 : decode cX1_fill 173 = .ok (.iastore, 1) := dk_79 (dk_at dksX1_fill_7 10 rfl rfl)
theorem dX1_fill_174 : decode cX1_fill 174 = .ok (.iinc 9 1, 3) := dk_132 9 1 (dk_at dksX1_fill_7 11 rfl rfl)
theorem dX1_fill_177 : decode cX1_fill 177 = .ok (.goto (-47), 3) := dk_167 255 209 (dk_at dksX1_fill_7 14 rfl rfl)
theorem dX1_fill_180 : decode cX1_fill 180 = .ok (.iinc 8 1, 3) := dk_132 8 1 (dk_at dksX1_fill_7 17 rfl rfl)
theorem dX1_fill_183 : decode cX1_fill 183 = .ok (.goto (-75), 3) := dk_167 255 181 (dk_at dksX1_fill_7 20 rfl rfl)
theorem dX1_fill_186 : decode cX1_fill 186 = .ok (.iinc 7 (-1), 3) := dk_132 7 255 (dk_at dksX1_fill_8 0 rfl rfl)
theorem dX1_fill_189 : decode cX1_fill 189 = .ok (.goto (-89), 3) := dk_167 255 167 (dk_at dksX1_fill_8 3 rfl rfl)
theorem dX1_fill_192 : decode cX1_fill 192 = .ok (.iload 4, 2) := dk_21 4 (dk_at dksX1_fill_8 6 rfl rfl)
theorem dX1_fill_194 : decode cX1_fill 194 = .ok (.iconst (-1), 1) := dk_2 (dk_at dksX1_fill_8 8 rfl rfl)
theorem dX1_fill_195 : decode cX1_fill 195 = .ok (.if_icmp .ne 12, 3) := dk_160 0 12 (dk_at dksX1_fill_8 9 rfl rfl)
theorem dX1_fill_198 : decode cX1_fill 198 = .ok (.aload_n 0, 1) := dk_42 (dk_at dksX1_fill_8 12 rfl rfl)
theorem dX1_fill_199 : decode cX1_fill 199 = .ok (.getfield 99, 3) := dk_180 0 99 (dk_at dksX1_fill_8 13 rfl rfl)
theorem dX1_fill_202 : decode cX1_fill 202 = .ok (.iconst 0, 1) := dk_3 (dk_at dksX1_fill_8 16 rfl rfl)
theorem dX1_fill_203 : decode cX1_fill 203 = .ok (.aaload, 1) := dk_50 (dk_at dksX1_fill_8 17 rfl rfl)
theorem dX1_fill_204 : decode cX1_fill 204 = .ok (.iload_n 3, 1) := dk_29 (dk_at dksX1_fill_8 18 rfl rfl)
theorem dX1_fill_205 : decode cX1_fill 205 = .ok (.iaload, 1) := dk_46 (dk_at dksX1_fill_8 19 rfl rfl)
theorem dX1_fill_206 : decode cX1_fill 206 = .ok (.ireturn, 1) := dk_172 (dk_at dksX1_fill_8 20 rfl rfl)
theorem dX1_fill_207 : decode cX1_fill 207 = .ok (.iload 4, 2) := dk_21 4 (dk_at dksX1_fill_8 21 rfl rfl)
theorem dX1_fill_209 : decode cX1_fill 209 = .ok (.i2l, 1) := dk_133 (dk_at dksX1_fill_8 23 rfl rfl)
theorem dX1_fill_210 : decode cX1_fill 210 = .ok (.lconst 0, 1) := dk_9 (dk_at dksX1_fill_9 0 rfl rfl)
theorem dX1_fill_211 : decode cX1_fill 211 = .ok (.iload 6, 2) := dk_21 6 (dk_at dksX1_fill_9 1 rfl rfl)
theorem dX1_fill_213 : decode cX1_fill 213 = .ok (.iconst 1, 1) := dk_4 (dk_at dksX1_fill_9 3 rfl rfl)
theorem dX1_fill_214 : decode cX1_fill 214 = .ok (.isub, 1) := dk_100 (dk_at dksX1_fill_9 4 rfl rfl)
theorem dX1_fill_215 : decode cX1_fill 215 = .ok (.i2l, 1) := dk_133 (dk_at dksX1_fill_9 5 rfl rfl)
theorem dX1_fill_216 : decode cX1_fill 216 = .ok (.invokestatic 106, 3) := dk_184 0 106 (dk_at dksX1_fill_9 6 rfl rfl)
theorem dX1_fill_219 : decode cX1_fill 219 = .ok (.ifCond .ne 5, 3) := dk_154 0 5 (dk_at dksX1_fill_9 9 rfl rfl)
theorem dX1_fill_222 : decode cX1_fill 222 = .ok (.iconst (-1), 1) := dk_2 (dk_at dksX1_fill_9 12 rfl rfl)
theorem dX1_fill_223 : decode cX1_fill 223 = .ok (.ireturn, 1) := dk_172 (dk_at dksX1_fill_9 13 rfl rfl)
theorem dX1_fill_224 : decode cX1_fill 224 = .ok (.iload_n 3, 1) := dk_29 (dk_at dksX1_fill_9 14 rfl rfl)
theorem dX1_fill_225 : decode cX1_fill 225 = .ok (.istore 7, 2) := dk_54 7 (dk_at dksX1_fill_9 15 rfl rfl)
theorem dX1_fill_227 : decode cX1_fill 227 = .ok (.iconst 0, 1) := dk_3 (dk_at dksX1_fill_9 17 rfl rfl)
theorem dX1_fill_228 : decode cX1_fill 228 = .ok (.istore 8, 2) := dk_54 8 (dk_at dksX1_fill_9 18 rfl rfl)
theorem dX1_fill_230 : decode cX1_fill 230 = .ok (.iconst 0, 1) := dk_3 (dk_at dksX1_fill_9 20 rfl rfl)
theorem dX1_fill_231 : decode cX1_fill 231 = .ok (.istore 9, 2) := dk_54 9 (dk_at dksX1_fill_9 21 rfl rfl)
theorem dX1_fill_233 : decode cX1_fill 233 = .ok (.iload 9, 2) := dk_21 9 (dk_at dksX1_fill_10 0 rfl rfl)
theorem dX1_fill_235 : decode cX1_fill 235 = .ok (.iload 4, 2) := dk_21 4 (dk_at dksX1_fill_10 2 rfl rfl)
theorem dX1_fill_237 : decode cX1_fill 237 = .ok (.if_icmp .gt 65, 3) := dk_163 0 65 (dk_at dksX1_fill_10 4 rfl rfl)
theorem dX1_fill_240 : decode cX1_fill 240 = .ok (.iload 7, 2) := dk_21 7 (dk_at dksX1_fill_10 7 rfl rfl)
theorem dX1_fill_242 : decode cX1_fill 242 = .ok (.iload 9, 2) := dk_21 9 (dk_at dksX1_fill_10 9 rfl rfl)
theorem dX1_fill_244 : decode cX1_fill 244 = .ok (.ifCond .ne 7, 3) := dk_154 0 7 (dk_at dksX1_fill_10 11 rfl rfl)
theorem dX1_fill_247 : decode cX1_fill 247 = .ok (.iconst 0, 1) := dk_3 (dk_at dksX1_fill_10 14 rfl rfl)
theorem dX1_fill_248 : decode cX1_fill 248 = .ok (.goto 4, 3) := dk_167 0 4 (dk_at dksX1_fill_10 15 rfl rfl)
theorem dX1_fill_251 : decode cX1_fill 251 = .ok (.iconst 1, 1) := dk_4 (dk_at dksX1_fill_10 18 rfl rfl)
theorem dX1_fill_252 : decode cX1_fill 252 = .ok (.isub, 1) := dk_100 (dk_at dksX1_fill_10 19 rfl rfl)
theorem dX1_fill_253 : decode cX1_fill 253 = .ok (.istore 7, 2) := dk_54 7 (dk_at dksX1_fill_10 20 rfl rfl)
theorem dX1_fill_255 : decode cX1_fill 255 = .ok (.iconst 0, 1) := dk_3 (dk_at dksX1_fill_10 22 rfl rfl)
theorem dX1_fill_256 : decode cX1_fill 256 = .ok (.istore 8, 2) := dk_54 8 (dk_at dksX1_fill_11 0 rfl rfl)
theorem dX1_fill_258 : decode cX1_fill 258 = .ok (.aload_n 0, 1) := dk_42 (dk_at dksX1_fill_11 2 rfl rfl)
theorem dX1_fill_259 : decode cX1_fill 259 = .ok (.aload 5, 2) := dk_25 5 (dk_at dksX1_fill_11 3 rfl rfl)
theorem dX1_fill_261 : decode cX1_fill 261 = .ok (.iload 9, 2) := dk_21 9 (dk_at dksX1_fill_11 5 rfl rfl)
theorem dX1_fill_263 : decode cX1_fill 263 = .ok (.iload 7, 2) := dk_21 7 (dk_at dksX1_fill_11 7 rfl rfl)
theorem dX1_fill_265 : decode cX1_fill 265 = .ok (.iload 8, 2) := dk_21 8 (dk_at dksX1_fill_11 9 rfl rfl)
theorem dX1_fill_267 : decode cX1_fill 267 = .ok (.invokevirtual 471, 3) := dk_182 1 215 (dk_at dksX1_fill_11 11 rfl rfl)
theorem dX1_fill_270 : decode cX1_fill 270 = .ok (.aload_n 0, 1) := dk_42 (dk_at dksX1_fill_11 14 rfl rfl)
theorem dX1_fill_271 : decode cX1_fill 271 = .ok (.getfield 99, 3) := dk_180 0 99 (dk_at dksX1_fill_11 15 rfl rfl)
theorem dX1_fill_274 : decode cX1_fill 274 = .ok (.iload 9, 2) := dk_21 9 (dk_at dksX1_fill_11 18 rfl rfl)
theorem dX1_fill_276 : decode cX1_fill 276 = .ok (.aaload, 1) := dk_50 (dk_at dksX1_fill_11 20 rfl rfl)
theorem dX1_fill_277 : decode cX1_fill 277 = .ok (.iload 7, 2) := dk_21 7 (dk_at dksX1_fill_11 21 rfl rfl)
theorem dX1_fill_279 : decode cX1_fill 279 = .ok (.iaload, 1) := dk_46 (dk_at dksX1_fill_11 23 rfl rfl)
theorem dX1_fill_280 : decode cX1_fill 280 = .ok (.if_icmp .eq 9, 3) := dk_159 0 9 (dk_at dksX1_fill_12 0 rfl rfl)
theorem dX1_fill_283 : decode cX1_fill 283 = .ok (.iinc 8 1, 3) := dk_132 8 1 (dk_at dksX1_fill_12 3 rfl rfl)
theorem dX1_fill_286 : decode cX1_fill 286 = .ok (.goto (-28), 3) := dk_167 255 228 (dk_at dksX1_fill_12 6 rfl rfl)
theorem dX1_fill_289 : decode cX1_fill 289 = .ok (.iload 7, 2) := dk_21 7 (dk_at dksX1_fill_12 9 rfl rfl)
theorem dX1_fill_291 : decode cX1_fill 291 = .ok (.iload 8, 2) := dk_21 8 (dk_at dksX1_fill_12 11 rfl rfl)
theorem dX1_fill_293 : decode cX1_fill 293 = .ok (.iadd, 1) := dk_96 (dk_at dksX1_fill_12 13 rfl rfl)
theorem dX1_fill_294 : decode cX1_fill 294 = .ok (.istore 7, 2) := dk_54 7 (dk_at dksX1_fill_12 14 rfl rfl)
theorem dX1_fill_296 : decode cX1_fill 296 = .ok (.iinc 9 1, 3) := dk_132 9 1 (dk_at dksX1_fill_12 16 rfl rfl)
theorem dX1_fill_299 : decode cX1_fill 299 = .ok (.goto (-66), 3) := dk_167 255 190 (dk_at dksX1_fill_12 19 rfl rfl)
theorem dX1_fill_302 : decode cX1_fill 302 = .ok (.iload 8, 2) := dk_21 8 (dk_at dksX1_fill_12 22 rfl rfl)
theorem dX1_fill_304 : decode cX1_fill 304 = .ok (.ireturn, 1) := dk_172 (dk_at dksX1_fill_13 0 rfl rfl)
theorem dX1_fill_305 : decode cX1_fill 305 = .ok (.astore 6, 2) := dk_58 6 (dk_at dksX1_fill_13 1 rfl rfl)
theorem dX1_fill_307 : decode cX1_fill 307 = .ok (.new 7, 3) := dk_187 0 7 (dk_at dksX1_fill_13 3 rfl rfl)
theorem dX1_fill_310 : decode cX1_fill 310 = .ok (.dup, 1) := dk_89 (dk_at dksX1_fill_13 6 rfl rfl)
theorem dX1_fill_311 : decode cX1_fill 311 = .ok (.invokespecial 9, 3) := dk_183 0 9 (dk_at dksX1_fill_13 7 rfl rfl)
theorem dX1_fill_314 : decode cX1_fill 314 = .ok (.athrow, 1) := dk_191 (dk_at dksX1_fill_13 10 rfl rfl)
abbrev cX1_paidBy : ByteArray := prog_1_method_66_code
def yX1_paidBy : MethodName := ⟨RX1, "paidBy", "(LPumpCrossing$Tray;III)I"⟩
def dkwX1_paidBy_1 : List UInt8 := [182, 1, 186, 136, 104, 42, 180, 0, 99, 28, 4, 96, 50, 21, 5, 46, 96, 172]
abbrev dktX1_paidBy_1 : List UInt8 := dkwX1_paidBy_1 ++ []
def dkwX1_paidBy_0 : List UInt8 := [29, 21, 4, 96, 4, 100, 54, 5, 21, 5, 156, 0, 9, 19, 1, 210, 167, 0, 24, 21, 4, 43, 28]
abbrev dktX1_paidBy_0 : List UInt8 := dkwX1_paidBy_0 ++ dktX1_paidBy_1
theorem dksX1_paidBy_0 : cX1_paidBy.data.toList.drop 0 = dktX1_paidBy_0 := by decide +kernel
theorem dksX1_paidBy_1 : cX1_paidBy.data.toList.drop 23 = dktX1_paidBy_1 := dk_seg dksX1_paidBy_0 23 rfl rfl
theorem dX1_paidBy_0 : decode cX1_paidBy 0 = .ok (.iload_n 3, 1) := dk_29 (dk_at dksX1_paidBy_0 0 rfl rfl)
theorem dX1_paidBy_1 : decode cX1_paidBy 1 = .ok (.iload 4, 2) := dk_21 4 (dk_at dksX1_paidBy_0 1 rfl rfl)
theorem dX1_paidBy_3 : decode cX1_paidBy 3 = .ok (.iadd, 1) := dk_96 (dk_at dksX1_paidBy_0 3 rfl rfl)
theorem dX1_paidBy_4 : decode cX1_paidBy 4 = .ok (.iconst 1, 1) := dk_4 (dk_at dksX1_paidBy_0 4 rfl rfl)
theorem dX1_paidBy_5 : decode cX1_paidBy 5 = .ok (.isub, 1) := dk_100 (dk_at dksX1_paidBy_0 5 rfl rfl)
theorem dX1_paidBy_6 : decode cX1_paidBy 6 = .ok (.istore 5, 2) := dk_54 5 (dk_at dksX1_paidBy_0 6 rfl rfl)
theorem dX1_paidBy_8 : decode cX1_paidBy 8 = .ok (.iload 5, 2) := dk_21 5 (dk_at dksX1_paidBy_0 8 rfl rfl)
theorem dX1_paidBy_10 : decode cX1_paidBy 10 = .ok (.ifCond .ge 9, 3) := dk_156 0 9 (dk_at dksX1_paidBy_0 10 rfl rfl)
theorem dX1_paidBy_13 : decode cX1_paidBy 13 = .ok (.ldc_w 466, 3) := dk_19 1 210 (dk_at dksX1_paidBy_0 13 rfl rfl)
theorem dX1_paidBy_16 : decode cX1_paidBy 16 = .ok (.goto 24, 3) := dk_167 0 24 (dk_at dksX1_paidBy_0 16 rfl rfl)
theorem dX1_paidBy_19 : decode cX1_paidBy 19 = .ok (.iload 4, 2) := dk_21 4 (dk_at dksX1_paidBy_0 19 rfl rfl)
theorem dX1_paidBy_21 : decode cX1_paidBy 21 = .ok (.aload_n 1, 1) := dk_43 (dk_at dksX1_paidBy_0 21 rfl rfl)
theorem dX1_paidBy_22 : decode cX1_paidBy 22 = .ok (.iload_n 2, 1) := dk_28 (dk_at dksX1_paidBy_0 22 rfl rfl)
theorem dX1_paidBy_23 : decode cX1_paidBy 23 = .ok (.invokevirtual 442, 3) := dk_182 1 186 (dk_at dksX1_paidBy_1 0 rfl rfl)
theorem dX1_paidBy_26 : decode cX1_paidBy 26 = .ok (.l2i, 1) := dk_136 (dk_at dksX1_paidBy_1 3 rfl rfl)
theorem dX1_paidBy_27 : decode cX1_paidBy 27 = .ok (.imul, 1) := dk_104 (dk_at dksX1_paidBy_1 4 rfl rfl)
theorem dX1_paidBy_28 : decode cX1_paidBy 28 = .ok (.aload_n 0, 1) := dk_42 (dk_at dksX1_paidBy_1 5 rfl rfl)
theorem dX1_paidBy_29 : decode cX1_paidBy 29 = .ok (.getfield 99, 3) := dk_180 0 99 (dk_at dksX1_paidBy_1 6 rfl rfl)
theorem dX1_paidBy_32 : decode cX1_paidBy 32 = .ok (.iload_n 2, 1) := dk_28 (dk_at dksX1_paidBy_1 9 rfl rfl)
theorem dX1_paidBy_33 : decode cX1_paidBy 33 = .ok (.iconst 1, 1) := dk_4 (dk_at dksX1_paidBy_1 10 rfl rfl)
theorem dX1_paidBy_34 : decode cX1_paidBy 34 = .ok (.iadd, 1) := dk_96 (dk_at dksX1_paidBy_1 11 rfl rfl)
theorem dX1_paidBy_35 : decode cX1_paidBy 35 = .ok (.aaload, 1) := dk_50 (dk_at dksX1_paidBy_1 12 rfl rfl)
theorem dX1_paidBy_36 : decode cX1_paidBy 36 = .ok (.iload 5, 2) := dk_21 5 (dk_at dksX1_paidBy_1 13 rfl rfl)
theorem dX1_paidBy_38 : decode cX1_paidBy 38 = .ok (.iaload, 1) := dk_46 (dk_at dksX1_paidBy_1 15 rfl rfl)
theorem dX1_paidBy_39 : decode cX1_paidBy 39 = .ok (.iadd, 1) := dk_96 (dk_at dksX1_paidBy_1 16 rfl rfl)
theorem dX1_paidBy_40 : decode cX1_paidBy 40 = .ok (.ireturn, 1) := dk_172 (dk_at dksX1_paidBy_1 17 rfl rfl)
abbrev cX1_told : ByteArray := prog_1_method_68_code
def yX1_told : MethodName := ⟨RX1, "told", "(IIII)I"⟩
def dkwX1_told_5 : List UInt8 := [182, 0, 162, 172]
abbrev dktX1_told_5 : List UInt8 := dkwX1_told_5 ++ []
def dkwX1_told_4 : List UInt8 := [2, 172, 42, 180, 0, 22, 180, 0, 129, 25, 5, 182, 0, 149, 87, 42, 180, 0, 22, 180, 0, 129]
abbrev dktX1_told_4 : List UInt8 := dkwX1_told_4 ++ dktX1_told_5
def dkwX1_told_3 : List UInt8 := [184, 0, 143, 132, 6, 1, 167, 255, 225, 42, 180, 0, 22, 180, 0, 129, 182, 0, 162, 16, 60, 160, 0, 5]
abbrev dktX1_told_3 : List UInt8 := dkwX1_told_3 ++ dktX1_told_4
def dkwX1_told_2 : List UInt8 := [180, 0, 22, 182, 0, 102, 162, 0, 25, 25, 5, 21, 6, 46, 133, 9, 20, 0, 139, 184, 0, 106]
abbrev dktX1_told_2 : List UInt8 := dkwX1_told_2 ++ dktX1_told_3
def dkwX1_told_1 : List UInt8 := [79, 89, 4, 28, 79, 89, 5, 29, 79, 89, 6, 21, 4, 79, 58, 5, 3, 54, 6, 21, 6, 42]
abbrev dktX1_told_1 : List UInt8 := dkwX1_told_1 ++ dktX1_told_2
def dkwX1_told_0 : List UInt8 := [42, 180, 0, 22, 182, 0, 102, 158, 0, 7, 4, 167, 0, 4, 3, 184, 0, 136, 7, 188, 10, 89, 3, 27]
abbrev dktX1_told_0 : List UInt8 := dkwX1_told_0 ++ dktX1_told_1
theorem dksX1_told_0 : cX1_told.data.toList.drop 0 = dktX1_told_0 := by decide +kernel
theorem dksX1_told_1 : cX1_told.data.toList.drop 24 = dktX1_told_1 := dk_seg dksX1_told_0 24 rfl rfl
theorem dksX1_told_2 : cX1_told.data.toList.drop 46 = dktX1_told_2 := dk_seg dksX1_told_1 22 rfl rfl
theorem dksX1_told_3 : cX1_told.data.toList.drop 68 = dktX1_told_3 := dk_seg dksX1_told_2 22 rfl rfl
theorem dksX1_told_4 : cX1_told.data.toList.drop 92 = dktX1_told_4 := dk_seg dksX1_told_3 24 rfl rfl
theorem dksX1_told_5 : cX1_told.data.toList.drop 114 = dktX1_told_5 := dk_seg dksX1_told_4 22 rfl rfl
theorem dX1_told_0 : decode cX1_told 0 = .ok (.aload_n 0, 1) := dk_42 (dk_at dksX1_told_0 0 rfl rfl)
theorem dX1_told_1 : decode cX1_told 1 = .ok (.getfield 22, 3) := dk_180 0 22 (dk_at dksX1_told_0 1 rfl rfl)
theorem dX1_told_4 : decode cX1_told 4 = .ok (.invokevirtual 102, 3) := dk_182 0 102 (dk_at dksX1_told_0 4 rfl rfl)
theorem dX1_told_7 : decode cX1_told 7 = .ok (.ifCond .le 7, 3) := dk_158 0 7 (dk_at dksX1_told_0 7 rfl rfl)
theorem dX1_told_10 : decode cX1_told 10 = .ok (.iconst 1, 1) := dk_4 (dk_at dksX1_told_0 10 rfl rfl)
theorem dX1_told_11 : decode cX1_told 11 = .ok (.goto 4, 3) := dk_167 0 4 (dk_at dksX1_told_0 11 rfl rfl)
theorem dX1_told_14 : decode cX1_told 14 = .ok (.iconst 0, 1) := dk_3 (dk_at dksX1_told_0 14 rfl rfl)
theorem dX1_told_15 : decode cX1_told 15 = .ok (.invokestatic 136, 3) := dk_184 0 136 (dk_at dksX1_told_0 15 rfl rfl)
theorem dX1_told_18 : decode cX1_told 18 = .ok (.iconst 4, 1) := dk_7 (dk_at dksX1_told_0 18 rfl rfl)
theorem dX1_told_19 : decode cX1_told 19 = .ok (.newarray .int, 2) := dk_188_10 (dk_at dksX1_told_0 19 rfl rfl)
theorem dX1_told_21 : decode cX1_told 21 = .ok (.dup, 1) := dk_89 (dk_at dksX1_told_0 21 rfl rfl)
theorem dX1_told_22 : decode cX1_told 22 = .ok (.iconst 0, 1) := dk_3 (dk_at dksX1_told_0 22 rfl rfl)
theorem dX1_told_23 : decode cX1_told 23 = .ok (.iload_n 1, 1) := dk_27 (dk_at dksX1_told_0 23 rfl rfl)
theorem dX1_told_24 : decode cX1_told 24 = .ok (.iastore, 1) := dk_79 (dk_at dksX1_told_1 0 rfl rfl)
theorem dX1_told_25 : decode cX1_told 25 = .ok (.dup, 1) := dk_89 (dk_at dksX1_told_1 1 rfl rfl)
theorem dX1_told_26 : decode cX1_told 26 = .ok (.iconst 1, 1) := dk_4 (dk_at dksX1_told_1 2 rfl rfl)
theorem dX1_told_27 : decode cX1_told 27 = .ok (.iload_n 2, 1) := dk_28 (dk_at dksX1_told_1 3 rfl rfl)
theorem dX1_told_28 : decode cX1_told 28 = .ok (.iastore, 1) := dk_79 (dk_at dksX1_told_1 4 rfl rfl)
theorem dX1_told_29 : decode cX1_told 29 = .ok (.dup, 1) := dk_89 (dk_at dksX1_told_1 5 rfl rfl)
theorem dX1_told_30 : decode cX1_told 30 = .ok (.iconst 2, 1) := dk_5 (dk_at dksX1_told_1 6 rfl rfl)
theorem dX1_told_31 : decode cX1_told 31 = .ok (.iload_n 3, 1) := dk_29 (dk_at dksX1_told_1 7 rfl rfl)
theorem dX1_told_32 : decode cX1_told 32 = .ok (.iastore, 1) := dk_79 (dk_at dksX1_told_1 8 rfl rfl)
theorem dX1_told_33 : decode cX1_told 33 = .ok (.dup, 1) := dk_89 (dk_at dksX1_told_1 9 rfl rfl)
theorem dX1_told_34 : decode cX1_told 34 = .ok (.iconst 3, 1) := dk_6 (dk_at dksX1_told_1 10 rfl rfl)
theorem dX1_told_35 : decode cX1_told 35 = .ok (.iload 4, 2) := dk_21 4 (dk_at dksX1_told_1 11 rfl rfl)
theorem dX1_told_37 : decode cX1_told 37 = .ok (.iastore, 1) := dk_79 (dk_at dksX1_told_1 13 rfl rfl)
theorem dX1_told_38 : decode cX1_told 38 = .ok (.astore 5, 2) := dk_58 5 (dk_at dksX1_told_1 14 rfl rfl)
theorem dX1_told_40 : decode cX1_told 40 = .ok (.iconst 0, 1) := dk_3 (dk_at dksX1_told_1 16 rfl rfl)
theorem dX1_told_41 : decode cX1_told 41 = .ok (.istore 6, 2) := dk_54 6 (dk_at dksX1_told_1 17 rfl rfl)
theorem dX1_told_43 : decode cX1_told 43 = .ok (.iload 6, 2) := dk_21 6 (dk_at dksX1_told_1 19 rfl rfl)
theorem dX1_told_45 : decode cX1_told 45 = .ok (.aload_n 0, 1) := dk_42 (dk_at dksX1_told_1 21 rfl rfl)
theorem dX1_told_46 : decode cX1_told 46 = .ok (.getfield 22, 3) := dk_180 0 22 (dk_at dksX1_told_2 0 rfl rfl)
theorem dX1_told_49 : decode cX1_told 49 = .ok (.invokevirtual 102, 3) := dk_182 0 102 (dk_at dksX1_told_2 3 rfl rfl)
theorem dX1_told_52 : decode cX1_told 52 = .ok (.if_icmp .ge 25, 3) := dk_162 0 25 (dk_at dksX1_told_2 6 rfl rfl)
theorem dX1_told_55 : decode cX1_told 55 = .ok (.aload 5, 2) := dk_25 5 (dk_at dksX1_told_2 9 rfl rfl)
theorem dX1_told_57 : decode cX1_told 57 = .ok (.iload 6, 2) := dk_21 6 (dk_at dksX1_told_2 11 rfl rfl)
theorem dX1_told_59 : decode cX1_told 59 = .ok (.iaload, 1) := dk_46 (dk_at dksX1_told_2 13 rfl rfl)
theorem dX1_told_60 : decode cX1_told 60 = .ok (.i2l, 1) := dk_133 (dk_at dksX1_told_2 14 rfl rfl)
theorem dX1_told_61 : decode cX1_told 61 = .ok (.lconst 0, 1) := dk_9 (dk_at dksX1_told_2 15 rfl rfl)
theorem dX1_told_62 : decode cX1_told 62 = .ok (.ldc2_w 139, 3) := dk_20 0 139 (dk_at dksX1_told_2 16 rfl rfl)
theorem dX1_told_65 : decode cX1_told 65 = .ok (.invokestatic 106, 3) := dk_184 0 106 (dk_at dksX1_told_2 19 rfl rfl)
theorem dX1_told_68 : decode cX1_told 68 = .ok (.invokestatic 143, 3) := dk_184 0 143 (dk_at dksX1_told_3 0 rfl rfl)
theorem dX1_told_71 : decode cX1_told 71 = .ok (.iinc 6 1, 3) := dk_132 6 1 (dk_at dksX1_told_3 3 rfl rfl)
theorem dX1_told_74 : decode cX1_told 74 = .ok (.goto (-31), 3) := dk_167 255 225 (dk_at dksX1_told_3 6 rfl rfl)
theorem dX1_told_77 : decode cX1_told 77 = .ok (.aload_n 0, 1) := dk_42 (dk_at dksX1_told_3 9 rfl rfl)
theorem dX1_told_78 : decode cX1_told 78 = .ok (.getfield 22, 3) := dk_180 0 22 (dk_at dksX1_told_3 10 rfl rfl)
theorem dX1_told_81 : decode cX1_told 81 = .ok (.getfield 129, 3) := dk_180 0 129 (dk_at dksX1_told_3 13 rfl rfl)
theorem dX1_told_84 : decode cX1_told 84 = .ok (.invokevirtual 162, 3) := dk_182 0 162 (dk_at dksX1_told_3 16 rfl rfl)
theorem dX1_told_87 : decode cX1_told 87 = .ok (.bipush 60, 2) := dk_16 60 (dk_at dksX1_told_3 19 rfl rfl)
theorem dX1_told_89 : decode cX1_told 89 = .ok (.if_icmp .ne 5, 3) := dk_160 0 5 (dk_at dksX1_told_3 21 rfl rfl)
theorem dX1_told_92 : decode cX1_told 92 = .ok (.iconst (-1), 1) := dk_2 (dk_at dksX1_told_4 0 rfl rfl)
theorem dX1_told_93 : decode cX1_told 93 = .ok (.ireturn, 1) := dk_172 (dk_at dksX1_told_4 1 rfl rfl)
theorem dX1_told_94 : decode cX1_told 94 = .ok (.aload_n 0, 1) := dk_42 (dk_at dksX1_told_4 2 rfl rfl)
theorem dX1_told_95 : decode cX1_told 95 = .ok (.getfield 22, 3) := dk_180 0 22 (dk_at dksX1_told_4 3 rfl rfl)
theorem dX1_told_98 : decode cX1_told 98 = .ok (.getfield 129, 3) := dk_180 0 129 (dk_at dksX1_told_4 6 rfl rfl)
theorem dX1_told_101 : decode cX1_told 101 = .ok (.aload 5, 2) := dk_25 5 (dk_at dksX1_told_4 9 rfl rfl)
theorem dX1_told_103 : decode cX1_told 103 = .ok (.invokevirtual 149, 3) := dk_182 0 149 (dk_at dksX1_told_4 11 rfl rfl)
theorem dX1_told_106 : decode cX1_told 106 = .ok (.pop, 1) := dk_87 (dk_at dksX1_told_4 14 rfl rfl)
theorem dX1_told_107 : decode cX1_told 107 = .ok (.aload_n 0, 1) := dk_42 (dk_at dksX1_told_4 15 rfl rfl)
theorem dX1_told_108 : decode cX1_told 108 = .ok (.getfield 22, 3) := dk_180 0 22 (dk_at dksX1_told_4 16 rfl rfl)
theorem dX1_told_111 : decode cX1_told 111 = .ok (.getfield 129, 3) := dk_180 0 129 (dk_at dksX1_told_4 19 rfl rfl)
theorem dX1_told_114 : decode cX1_told 114 = .ok (.invokevirtual 162, 3) := dk_182 0 162 (dk_at dksX1_told_5 0 rfl rfl)
theorem dX1_told_117 : decode cX1_told 117 = .ok (.ireturn, 1) := dk_172 (dk_at dksX1_told_5 3 rfl rfl)
abbrev cX1_fit : ByteArray := prog_1_method_69_code
def yX1_fit : MethodName := ⟨RX1, "fit", "(I)I"⟩
def dkwX1_fit_2 : List UInt8 := [159, 0, 5, 28, 172, 132, 2, 1, 167, 255, 208, 2, 172]
abbrev dktX1_fit_2 : List UInt8 := dkwX1_fit_2 ++ []
def dkwX1_fit_1 : List UInt8 := [180, 0, 52, 27, 28, 182, 1, 39, 42, 180, 0, 22, 180, 0, 129, 28, 182, 0, 118, 192, 1, 209, 27, 46]
abbrev dktX1_fit_1 : List UInt8 := dkwX1_fit_1 ++ dktX1_fit_2
def dkwX1_fit_0 : List UInt8 := [42, 27, 182, 0, 153, 87, 4, 61, 28, 42, 180, 0, 22, 180, 0, 129, 182, 0, 162, 162, 0, 40, 42, 42]
abbrev dktX1_fit_0 : List UInt8 := dkwX1_fit_0 ++ dktX1_fit_1
theorem dksX1_fit_0 : cX1_fit.data.toList.drop 0 = dktX1_fit_0 := by decide +kernel
theorem dksX1_fit_1 : cX1_fit.data.toList.drop 24 = dktX1_fit_1 := dk_seg dksX1_fit_0 24 rfl rfl
theorem dksX1_fit_2 : cX1_fit.data.toList.drop 48 = dktX1_fit_2 := dk_seg dksX1_fit_1 24 rfl rfl
theorem dX1_fit_0 : decode cX1_fit 0 = .ok (.aload_n 0, 1) := dk_42 (dk_at dksX1_fit_0 0 rfl rfl)
theorem dX1_fit_1 : decode cX1_fit 1 = .ok (.iload_n 1, 1) := dk_27 (dk_at dksX1_fit_0 1 rfl rfl)
theorem dX1_fit_2 : decode cX1_fit 2 = .ok (.invokevirtual 153, 3) := dk_182 0 153 (dk_at dksX1_fit_0 2 rfl rfl)
theorem dX1_fit_5 : decode cX1_fit 5 = .ok (.pop, 1) := dk_87 (dk_at dksX1_fit_0 5 rfl rfl)
theorem dX1_fit_6 : decode cX1_fit 6 = .ok (.iconst 1, 1) := dk_4 (dk_at dksX1_fit_0 6 rfl rfl)
theorem dX1_fit_7 : decode cX1_fit 7 = .ok (.istore_n 2, 1) := dk_61 (dk_at dksX1_fit_0 7 rfl rfl)
theorem dX1_fit_8 : decode cX1_fit 8 = .ok (.iload_n 2, 1) := dk_28 (dk_at dksX1_fit_0 8 rfl rfl)
theorem dX1_fit_9 : decode cX1_fit 9 = .ok (.aload_n 0, 1) := dk_42 (dk_at dksX1_fit_0 9 rfl rfl)
theorem dX1_fit_10 : decode cX1_fit 10 = .ok (.getfield 22, 3) := dk_180 0 22 (dk_at dksX1_fit_0 10 rfl rfl)
theorem dX1_fit_13 : decode cX1_fit 13 = .ok (.getfield 129, 3) := dk_180 0 129 (dk_at dksX1_fit_0 13 rfl rfl)
theorem dX1_fit_16 : decode cX1_fit 16 = .ok (.invokevirtual 162, 3) := dk_182 0 162 (dk_at dksX1_fit_0 16 rfl rfl)
theorem dX1_fit_19 : decode cX1_fit 19 = .ok (.if_icmp .ge 40, 3) := dk_162 0 40 (dk_at dksX1_fit_0 19 rfl rfl)
theorem dX1_fit_22 : decode cX1_fit 22 = .ok (.aload_n 0, 1) := dk_42 (dk_at dksX1_fit_0 22 rfl rfl)
theorem dX1_fit_23 : decode cX1_fit 23 = .ok (.aload_n 0, 1) := dk_42 (dk_at dksX1_fit_0 23 rfl rfl)
theorem dX1_fit_24 : decode cX1_fit 24 = .ok (.getfield 52, 3) := dk_180 0 52 (dk_at dksX1_fit_1 0 rfl rfl)
theorem dX1_fit_27 : decode cX1_fit 27 = .ok (.iload_n 1, 1) := dk_27 (dk_at dksX1_fit_1 3 rfl rfl)
theorem dX1_fit_28 : decode cX1_fit 28 = .ok (.iload_n 2, 1) := dk_28 (dk_at dksX1_fit_1 4 rfl rfl)
theorem dX1_fit_29 : decode cX1_fit 29 = .ok (.invokevirtual 295, 3) := dk_182 1 39 (dk_at dksX1_fit_1 5 rfl rfl)
theorem dX1_fit_32 : decode cX1_fit 32 = .ok (.aload_n 0, 1) := dk_42 (dk_at dksX1_fit_1 8 rfl rfl)
theorem dX1_fit_33 : decode cX1_fit 33 = .ok (.getfield 22, 3) := dk_180 0 22 (dk_at dksX1_fit_1 9 rfl rfl)
theorem dX1_fit_36 : decode cX1_fit 36 = .ok (.getfield 129, 3) := dk_180 0 129 (dk_at dksX1_fit_1 12 rfl rfl)
theorem dX1_fit_39 : decode cX1_fit 39 = .ok (.iload_n 2, 1) := dk_28 (dk_at dksX1_fit_1 15 rfl rfl)
theorem dX1_fit_40 : decode cX1_fit 40 = .ok (.invokevirtual 118, 3) := dk_182 0 118 (dk_at dksX1_fit_1 16 rfl rfl)
theorem dX1_fit_43 : decode cX1_fit 43 = .ok (.checkcast 465, 3) := dk_192 1 209 (dk_at dksX1_fit_1 19 rfl rfl)
theorem dX1_fit_46 : decode cX1_fit 46 = .ok (.iload_n 1, 1) := dk_27 (dk_at dksX1_fit_1 22 rfl rfl)
theorem dX1_fit_47 : decode cX1_fit 47 = .ok (.iaload, 1) := dk_46 (dk_at dksX1_fit_1 23 rfl rfl)
theorem dX1_fit_48 : decode cX1_fit 48 = .ok (.if_icmp .eq 5, 3) := dk_159 0 5 (dk_at dksX1_fit_2 0 rfl rfl)
theorem dX1_fit_51 : decode cX1_fit 51 = .ok (.iload_n 2, 1) := dk_28 (dk_at dksX1_fit_2 3 rfl rfl)
theorem dX1_fit_52 : decode cX1_fit 52 = .ok (.ireturn, 1) := dk_172 (dk_at dksX1_fit_2 4 rfl rfl)
theorem dX1_fit_53 : decode cX1_fit 53 = .ok (.iinc 2 1, 3) := dk_132 2 1 (dk_at dksX1_fit_2 5 rfl rfl)
theorem dX1_fit_56 : decode cX1_fit 56 = .ok (.goto (-48), 3) := dk_167 255 208 (dk_at dksX1_fit_2 8 rfl rfl)
theorem dX1_fit_59 : decode cX1_fit 59 = .ok (.iconst (-1), 1) := dk_2 (dk_at dksX1_fit_2 11 rfl rfl)
theorem dX1_fit_60 : decode cX1_fit 60 = .ok (.ireturn, 1) := dk_172 (dk_at dksX1_fit_2 12 rfl rfl)
abbrev cX1_tray : ByteArray := prog_1_method_61_code
def yX1_tray : MethodName := ⟨RX1, "tray", "(III)V"⟩
def dkwX1_tray_2 : List UInt8 := [187, 0, 1, 89, 183, 0, 3, 191, 177]
abbrev dktX1_tray_2 : List UInt8 := dkwX1_tray_2 ++ []
def dkwX1_tray_1 : List UInt8 := [163, 0, 7, 4, 167, 0, 4, 3, 184, 0, 143, 25, 4, 28, 29, 182, 1, 177, 167, 0, 13, 58, 5]
abbrev dktX1_tray_1 : List UInt8 := dkwX1_tray_1 ++ dktX1_tray_2
def dkwX1_tray_0 : List UInt8 := [42, 27, 182, 1, 173, 58, 4, 28, 133, 9, 20, 0, 141, 184, 0, 106, 153, 0, 13, 29, 16, 28]
abbrev dktX1_tray_0 : List UInt8 := dkwX1_tray_0 ++ dktX1_tray_1
theorem dksX1_tray_0 : cX1_tray.data.toList.drop 0 = dktX1_tray_0 := by decide +kernel
theorem dksX1_tray_1 : cX1_tray.data.toList.drop 22 = dktX1_tray_1 := dk_seg dksX1_tray_0 22 rfl rfl
theorem dksX1_tray_2 : cX1_tray.data.toList.drop 45 = dktX1_tray_2 := dk_seg dksX1_tray_1 23 rfl rfl
theorem dX1_tray_0 : decode cX1_tray 0 = .ok (.aload_n 0, 1) := dk_42 (dk_at dksX1_tray_0 0 rfl rfl)
theorem dX1_tray_1 : decode cX1_tray 1 = .ok (.iload_n 1, 1) := dk_27 (dk_at dksX1_tray_0 1 rfl rfl)
theorem dX1_tray_2 : decode cX1_tray 2 = .ok (.invokevirtual 429, 3) := dk_182 1 173 (dk_at dksX1_tray_0 2 rfl rfl)
theorem dX1_tray_5 : decode cX1_tray 5 = .ok (.astore 4, 2) := dk_58 4 (dk_at dksX1_tray_0 5 rfl rfl)
theorem dX1_tray_7 : decode cX1_tray 7 = .ok (.iload_n 2, 1) := dk_28 (dk_at dksX1_tray_0 7 rfl rfl)
theorem dX1_tray_8 : decode cX1_tray 8 = .ok (.i2l, 1) := dk_133 (dk_at dksX1_tray_0 8 rfl rfl)
theorem dX1_tray_9 : decode cX1_tray 9 = .ok (.lconst 0, 1) := dk_9 (dk_at dksX1_tray_0 9 rfl rfl)
theorem dX1_tray_10 : decode cX1_tray 10 = .ok (.ldc2_w 141, 3) := dk_20 0 141 (dk_at dksX1_tray_0 10 rfl rfl)
theorem dX1_tray_13 : decode cX1_tray 13 = .ok (.invokestatic 106, 3) := dk_184 0 106 (dk_at dksX1_tray_0 13 rfl rfl)
theorem dX1_tray_16 : decode cX1_tray 16 = .ok (.ifCond .eq 13, 3) := dk_153 0 13 (dk_at dksX1_tray_0 16 rfl rfl)
theorem dX1_tray_19 : decode cX1_tray 19 = .ok (.iload_n 3, 1) := dk_29 (dk_at dksX1_tray_0 19 rfl rfl)
theorem dX1_tray_20 : decode cX1_tray 20 = .ok (.bipush 28, 2) := dk_16 28 (dk_at dksX1_tray_0 20 rfl rfl)
theorem dX1_tray_22 : decode cX1_tray 22 = .ok (.if_icmp .gt 7, 3) := dk_163 0 7 (dk_at dksX1_tray_1 0 rfl rfl)
theorem dX1_tray_25 : decode cX1_tray 25 = .ok (.iconst 1, 1) := dk_4 (dk_at dksX1_tray_1 3 rfl rfl)
theorem dX1_tray_26 : decode cX1_tray 26 = .ok (.goto 4, 3) := dk_167 0 4 (dk_at dksX1_tray_1 4 rfl rfl)
theorem dX1_tray_29 : decode cX1_tray 29 = .ok (.iconst 0, 1) := dk_3 (dk_at dksX1_tray_1 7 rfl rfl)
theorem dX1_tray_30 : decode cX1_tray 30 = .ok (.invokestatic 143, 3) := dk_184 0 143 (dk_at dksX1_tray_1 8 rfl rfl)
theorem dX1_tray_33 : decode cX1_tray 33 = .ok (.aload 4, 2) := dk_25 4 (dk_at dksX1_tray_1 11 rfl rfl)
theorem dX1_tray_35 : decode cX1_tray 35 = .ok (.iload_n 2, 1) := dk_28 (dk_at dksX1_tray_1 13 rfl rfl)
theorem dX1_tray_36 : decode cX1_tray 36 = .ok (.iload_n 3, 1) := dk_29 (dk_at dksX1_tray_1 14 rfl rfl)
theorem dX1_tray_37 : decode cX1_tray 37 = .ok (.invokevirtual 433, 3) := dk_182 1 177 (dk_at dksX1_tray_1 15 rfl rfl)
theorem dX1_tray_40 : decode cX1_tray 40 = .ok (.goto 13, 3) := dk_167 0 13 (dk_at dksX1_tray_1 18 rfl rfl)
theorem dX1_tray_43 : decode cX1_tray 43 = .ok (.astore 5, 2) := dk_58 5 (dk_at dksX1_tray_1 21 rfl rfl)
theorem dX1_tray_45 : decode cX1_tray 45 = .ok (.new 1, 3) := dk_187 0 1 (dk_at dksX1_tray_2 0 rfl rfl)
theorem dX1_tray_48 : decode cX1_tray 48 = .ok (.dup, 1) := dk_89 (dk_at dksX1_tray_2 3 rfl rfl)
theorem dX1_tray_49 : decode cX1_tray 49 = .ok (.invokespecial 3, 3) := dk_183 0 3 (dk_at dksX1_tray_2 4 rfl rfl)
theorem dX1_tray_52 : decode cX1_tray 52 = .ok (.athrow, 1) := dk_191 (dk_at dksX1_tray_2 7 rfl rfl)
theorem dX1_tray_53 : decode cX1_tray 53 = .ok (.return_, 1) := dk_177 (dk_at dksX1_tray_2 8 rfl rfl)
abbrev cX1_write : ByteArray := prog_1_method_62_code
def yX1_write : MethodName := ⟨RX1, "write", "(IIJ)J"⟩
def dkwX1_write_1 : List UInt8 := [187, 0, 7, 89, 183, 0, 9, 191, 58, 6, 187, 0, 13, 89, 183, 0, 15, 191]
abbrev dktX1_write_1 : List UInt8 := dkwX1_write_1 ++ []
def dkwX1_write_0 : List UInt8 := [42, 27, 182, 1, 173, 58, 5, 25, 5, 28, 33, 182, 1, 182, 25, 5, 28, 182, 1, 186, 173, 58, 6]
abbrev dktX1_write_0 : List UInt8 := dkwX1_write_0 ++ dktX1_write_1
theorem dksX1_write_0 : cX1_write.data.toList.drop 0 = dktX1_write_0 := by decide +kernel
theorem dksX1_write_1 : cX1_write.data.toList.drop 23 = dktX1_write_1 := dk_seg dksX1_write_0 23 rfl rfl
theorem dX1_write_0 : decode cX1_write 0 = .ok (.aload_n 0, 1) := dk_42 (dk_at dksX1_write_0 0 rfl rfl)
theorem dX1_write_1 : decode cX1_write 1 = .ok (.iload_n 1, 1) := dk_27 (dk_at dksX1_write_0 1 rfl rfl)
theorem dX1_write_2 : decode cX1_write 2 = .ok (.invokevirtual 429, 3) := dk_182 1 173 (dk_at dksX1_write_0 2 rfl rfl)
theorem dX1_write_5 : decode cX1_write 5 = .ok (.astore 5, 2) := dk_58 5 (dk_at dksX1_write_0 5 rfl rfl)
theorem dX1_write_7 : decode cX1_write 7 = .ok (.aload 5, 2) := dk_25 5 (dk_at dksX1_write_0 7 rfl rfl)
theorem dX1_write_9 : decode cX1_write 9 = .ok (.iload_n 2, 1) := dk_28 (dk_at dksX1_write_0 9 rfl rfl)
theorem dX1_write_10 : decode cX1_write 10 = .ok (.lload_n 3, 1) := dk_33 (dk_at dksX1_write_0 10 rfl rfl)
theorem dX1_write_11 : decode cX1_write 11 = .ok (.invokevirtual 438, 3) := dk_182 1 182 (dk_at dksX1_write_0 11 rfl rfl)
theorem dX1_write_14 : decode cX1_write 14 = .ok (.aload 5, 2) := dk_25 5 (dk_at dksX1_write_0 14 rfl rfl)
theorem dX1_write_16 : decode cX1_write 16 = .ok (.iload_n 2, 1) := dk_28 (dk_at dksX1_write_0 16 rfl rfl)
theorem dX1_write_17 : decode cX1_write 17 = .ok (.invokevirtual 442, 3) := dk_182 1 186 (dk_at dksX1_write_0 17 rfl rfl)
theorem dX1_write_20 : decode cX1_write 20 = .ok (.lreturn, 1) := dk_173 (dk_at dksX1_write_0 20 rfl rfl)
theorem dX1_write_21 : decode cX1_write 21 = .ok (.astore 6, 2) := dk_58 6 (dk_at dksX1_write_0 21 rfl rfl)
theorem dX1_write_23 : decode cX1_write 23 = .ok (.new 7, 3) := dk_187 0 7 (dk_at dksX1_write_1 0 rfl rfl)
theorem dX1_write_26 : decode cX1_write 26 = .ok (.dup, 1) := dk_89 (dk_at dksX1_write_1 3 rfl rfl)
theorem dX1_write_27 : decode cX1_write 27 = .ok (.invokespecial 9, 3) := dk_183 0 9 (dk_at dksX1_write_1 4 rfl rfl)
theorem dX1_write_30 : decode cX1_write 30 = .ok (.athrow, 1) := dk_191 (dk_at dksX1_write_1 7 rfl rfl)
theorem dX1_write_31 : decode cX1_write 31 = .ok (.astore 6, 2) := dk_58 6 (dk_at dksX1_write_1 8 rfl rfl)
theorem dX1_write_33 : decode cX1_write 33 = .ok (.new 13, 3) := dk_187 0 13 (dk_at dksX1_write_1 10 rfl rfl)
theorem dX1_write_36 : decode cX1_write 36 = .ok (.dup, 1) := dk_89 (dk_at dksX1_write_1 13 rfl rfl)
theorem dX1_write_37 : decode cX1_write 37 = .ok (.invokespecial 15, 3) := dk_183 0 15 (dk_at dksX1_write_1 14 rfl rfl)
theorem dX1_write_40 : decode cX1_write 40 = .ok (.athrow, 1) := dk_191 (dk_at dksX1_write_1 17 rfl rfl)
abbrev cX1_image : ByteArray := prog_1_method_70_code
def yX1_image : MethodName := ⟨RX1, "image", "(I)V"⟩
def dkwX1_image_1 : List UInt8 := [180, 0, 22, 183, 1, 219, 83, 177]
abbrev dktX1_image_1 : List UInt8 := dkwX1_image_1 ++ []
def dkwX1_image_0 : List UInt8 := [27, 133, 9, 20, 1, 77, 184, 0, 106, 184, 0, 110, 42, 180, 0, 28, 27, 187, 0, 19, 89, 42]
abbrev dktX1_image_0 : List UInt8 := dkwX1_image_0 ++ dktX1_image_1
theorem dksX1_image_0 : cX1_image.data.toList.drop 0 = dktX1_image_0 := by decide +kernel
theorem dksX1_image_1 : cX1_image.data.toList.drop 22 = dktX1_image_1 := dk_seg dksX1_image_0 22 rfl rfl
theorem dX1_image_0 : decode cX1_image 0 = .ok (.iload_n 1, 1) := dk_27 (dk_at dksX1_image_0 0 rfl rfl)
theorem dX1_image_1 : decode cX1_image 1 = .ok (.i2l, 1) := dk_133 (dk_at dksX1_image_0 1 rfl rfl)
theorem dX1_image_2 : decode cX1_image 2 = .ok (.lconst 0, 1) := dk_9 (dk_at dksX1_image_0 2 rfl rfl)
theorem dX1_image_3 : decode cX1_image 3 = .ok (.ldc2_w 333, 3) := dk_20 1 77 (dk_at dksX1_image_0 3 rfl rfl)
theorem dX1_image_6 : decode cX1_image 6 = .ok (.invokestatic 106, 3) := dk_184 0 106 (dk_at dksX1_image_0 6 rfl rfl)
theorem dX1_image_9 : decode cX1_image 9 = .ok (.invokestatic 110, 3) := dk_184 0 110 (dk_at dksX1_image_0 9 rfl rfl)
theorem dX1_image_12 : decode cX1_image 12 = .ok (.aload_n 0, 1) := dk_42 (dk_at dksX1_image_0 12 rfl rfl)
theorem dX1_image_13 : decode cX1_image 13 = .ok (.getfield 28, 3) := dk_180 0 28 (dk_at dksX1_image_0 13 rfl rfl)
theorem dX1_image_16 : decode cX1_image 16 = .ok (.iload_n 1, 1) := dk_27 (dk_at dksX1_image_0 16 rfl rfl)
theorem dX1_image_17 : decode cX1_image 17 = .ok (.new 19, 3) := dk_187 0 19 (dk_at dksX1_image_0 17 rfl rfl)
theorem dX1_image_20 : decode cX1_image 20 = .ok (.dup, 1) := dk_89 (dk_at dksX1_image_0 20 rfl rfl)
theorem dX1_image_21 : decode cX1_image 21 = .ok (.aload_n 0, 1) := dk_42 (dk_at dksX1_image_0 21 rfl rfl)
theorem dX1_image_22 : decode cX1_image 22 = .ok (.getfield 22, 3) := dk_180 0 22 (dk_at dksX1_image_1 0 rfl rfl)
theorem dX1_image_25 : decode cX1_image 25 = .ok (.invokespecial 475, 3) := dk_183 1 219 (dk_at dksX1_image_1 3 rfl rfl)
theorem dX1_image_28 : decode cX1_image 28 = .ok (.aastore, 1) := dk_83 (dk_at dksX1_image_1 6 rfl rfl)
theorem dX1_image_29 : decode cX1_image 29 = .ok (.return_, 1) := dk_177 (dk_at dksX1_image_1 7 rfl rfl)
abbrev cX1_restore : ByteArray := prog_1_method_71_code
def yX1_restore : MethodName := ⟨RX1, "restore", "(I)V"⟩
def dkwX1_restore_2 : List UInt8 := [177]
abbrev dktX1_restore_2 : List UInt8 := dkwX1_restore_2 ++ []
def dkwX1_restore_1 : List UInt8 := [167, 0, 4, 3, 184, 0, 136, 42, 187, 0, 19, 89, 42, 180, 0, 28, 27, 50, 183, 1, 219, 181, 0, 22]
abbrev dktX1_restore_1 : List UInt8 := dkwX1_restore_1 ++ dktX1_restore_2
def dkwX1_restore_0 : List UInt8 := [27, 133, 9, 20, 1, 77, 184, 0, 106, 184, 0, 110, 42, 180, 0, 28, 27, 50, 198, 0, 7, 4]
abbrev dktX1_restore_0 : List UInt8 := dkwX1_restore_0 ++ dktX1_restore_1
theorem dksX1_restore_0 : cX1_restore.data.toList.drop 0 = dktX1_restore_0 := by decide +kernel
theorem dksX1_restore_1 : cX1_restore.data.toList.drop 22 = dktX1_restore_1 := dk_seg dksX1_restore_0 22 rfl rfl
theorem dksX1_restore_2 : cX1_restore.data.toList.drop 46 = dktX1_restore_2 := dk_seg dksX1_restore_1 24 rfl rfl
theorem dX1_restore_0 : decode cX1_restore 0 = .ok (.iload_n 1, 1) := dk_27 (dk_at dksX1_restore_0 0 rfl rfl)
theorem dX1_restore_1 : decode cX1_restore 1 = .ok (.i2l, 1) := dk_133 (dk_at dksX1_restore_0 1 rfl rfl)
theorem dX1_restore_2 : decode cX1_restore 2 = .ok (.lconst 0, 1) := dk_9 (dk_at dksX1_restore_0 2 rfl rfl)
theorem dX1_restore_3 : decode cX1_restore 3 = .ok (.ldc2_w 333, 3) := dk_20 1 77 (dk_at dksX1_restore_0 3 rfl rfl)
theorem dX1_restore_6 : decode cX1_restore 6 = .ok (.invokestatic 106, 3) := dk_184 0 106 (dk_at dksX1_restore_0 6 rfl rfl)
theorem dX1_restore_9 : decode cX1_restore 9 = .ok (.invokestatic 110, 3) := dk_184 0 110 (dk_at dksX1_restore_0 9 rfl rfl)
theorem dX1_restore_12 : decode cX1_restore 12 = .ok (.aload_n 0, 1) := dk_42 (dk_at dksX1_restore_0 12 rfl rfl)
theorem dX1_restore_13 : decode cX1_restore 13 = .ok (.getfield 28, 3) := dk_180 0 28 (dk_at dksX1_restore_0 13 rfl rfl)
theorem dX1_restore_16 : decode cX1_restore 16 = .ok (.iload_n 1, 1) := dk_27 (dk_at dksX1_restore_0 16 rfl rfl)
theorem dX1_restore_17 : decode cX1_restore 17 = .ok (.aaload, 1) := dk_50 (dk_at dksX1_restore_0 17 rfl rfl)
theorem dX1_restore_18 : decode cX1_restore 18 = .ok (.ifnull 7, 3) := dk_198 0 7 (dk_at dksX1_restore_0 18 rfl rfl)
theorem dX1_restore_21 : decode cX1_restore 21 = .ok (.iconst 1, 1) := dk_4 (dk_at dksX1_restore_0 21 rfl rfl)
theorem dX1_restore_22 : decode cX1_restore 22 = .ok (.goto 4, 3) := dk_167 0 4 (dk_at dksX1_restore_1 0 rfl rfl)
theorem dX1_restore_25 : decode cX1_restore 25 = .ok (.iconst 0, 1) := dk_3 (dk_at dksX1_restore_1 3 rfl rfl)
theorem dX1_restore_26 : decode cX1_restore 26 = .ok (.invokestatic 136, 3) := dk_184 0 136 (dk_at dksX1_restore_1 4 rfl rfl)
theorem dX1_restore_29 : decode cX1_restore 29 = .ok (.aload_n 0, 1) := dk_42 (dk_at dksX1_restore_1 7 rfl rfl)
theorem dX1_restore_30 : decode cX1_restore 30 = .ok (.new 19, 3) := dk_187 0 19 (dk_at dksX1_restore_1 8 rfl rfl)
theorem dX1_restore_33 : decode cX1_restore 33 = .ok (.dup, 1) := dk_89 (dk_at dksX1_restore_1 11 rfl rfl)
theorem dX1_restore_34 : decode cX1_restore 34 = .ok (.aload_n 0, 1) := dk_42 (dk_at dksX1_restore_1 12 rfl rfl)
theorem dX1_restore_35 : decode cX1_restore 35 = .ok (.getfield 28, 3) := dk_180 0 28 (dk_at dksX1_restore_1 13 rfl rfl)
theorem dX1_restore_38 : decode cX1_restore 38 = .ok (.iload_n 1, 1) := dk_27 (dk_at dksX1_restore_1 16 rfl rfl)
theorem dX1_restore_39 : decode cX1_restore 39 = .ok (.aaload, 1) := dk_50 (dk_at dksX1_restore_1 17 rfl rfl)
theorem dX1_restore_40 : decode cX1_restore 40 = .ok (.invokespecial 475, 3) := dk_183 1 219 (dk_at dksX1_restore_1 18 rfl rfl)
theorem dX1_restore_43 : decode cX1_restore 43 = .ok (.putfield 22, 3) := dk_181 0 22 (dk_at dksX1_restore_1 21 rfl rfl)
theorem dX1_restore_46 : decode cX1_restore 46 = .ok (.return_, 1) := dk_177 (dk_at dksX1_restore_2 0 rfl rfl)
theorem q97 : (Jvm.Cond.initialized "PumpCrossing") ∈ lw_all := lw_g (lw_at lw_m1 1 rfl) rfl
theorem q147 : (Jvm.Cond.instantiable "PumpCrossing" (21 : Nat)) ∈ lw_all := lw_g (lw_at lw_m1 51 rfl) rfl
theorem q149 : (Jvm.Cond.instanceMethod ({ cls := "PumpCrossing", name := "<init>", desc := "()V" } : Jvm.MethodName)) ∈ lw_all := lw_g (lw_at lw_m1 53 rfl) rfl
theorem q150 : (Jvm.Cond.code ({ cls := "PumpCrossing", name := "<init>", desc := "()V" } : Jvm.MethodName) prog_1_method_7_code (1 : Nat) (Option.none : Option Jvm.ClassFile.FieldType)) ∈ lw_all := lw_g (lw_at lw_m1 54 rfl) rfl
theorem q151 : (Jvm.Cond.methodLink "PumpCrossing" (16 : Nat) ({ cls := "java/lang/Object", name := "<init>", desc := "()V" } : Jvm.MethodName)) ∈ lw_all := lw_g (lw_at lw_m1 55 rfl) rfl
theorem q154 : (Jvm.Cond.classLink "PumpCrossing" (19 : Nat) "PumpCrossing$Crossing") ∈ lw_all := lw_g (lw_at lw_m1 58 rfl) rfl
theorem q156 : (Jvm.Cond.methodLink "PumpCrossing" (21 : Nat) ({ cls := "PumpCrossing$Crossing", name := "<init>", desc := "()V" } : Jvm.MethodName)) ∈ lw_all := lw_g (lw_at lw_m1 60 rfl) rfl
theorem q199 : (Jvm.Cond.fieldLinkNest "PumpCrossing" (282 : Nat) "PumpCrossing$Law" "isTold" "Z" "PumpCrossing") ∈ lw_tbl := lw_at lw_m1 103 rfl
theorem q219 : (Jvm.Cond.fieldLinkNest "PumpCrossing" (114 : Nat) "PumpCrossing$Crossing" "stations" "Ljava/util/ArrayList;" "PumpCrossing") ∈ lw_tbl := lw_at lw_m1 123 rfl
theorem q221 : (Jvm.Cond.fieldLinkNest "PumpCrossing" (159 : Nat) "PumpCrossing$Crossing" "drivers" "Ljava/util/ArrayList;" "PumpCrossing") ∈ lw_tbl := lw_at lw_m1 125 rfl
theorem q223 : (Jvm.Cond.fieldLinkNest "PumpCrossing" (173 : Nat) "PumpCrossing$Crossing" "changes" "Ljava/util/ArrayList;" "PumpCrossing") ∈ lw_tbl := lw_at lw_m1 127 rfl
theorem q225 : (Jvm.Cond.fieldLinkNest "PumpCrossing" (456 : Nat) "PumpCrossing$Crossing" "rises" "Ljava/util/ArrayList;" "PumpCrossing") ∈ lw_tbl := lw_at lw_m1 129 rfl
theorem q228 : (Jvm.Cond.fieldLinkNest "PumpCrossing" (129 : Nat) "PumpCrossing$Crossing" "told" "Ljava/util/ArrayList;" "PumpCrossing") ∈ lw_tbl := lw_at lw_m1 132 rfl
theorem q230 : (Jvm.Cond.fieldLinkNest "PumpCrossing" (229 : Nat) "PumpCrossing$Crossing" "law" "LPumpCrossing$Law;" "PumpCrossing") ∈ lw_tbl := lw_at lw_m1 134 rfl
theorem q232 : (Jvm.Cond.fieldLinkNest "PumpCrossing" (304 : Nat) "PumpCrossing$Crossing" "boards" "[[B" "PumpCrossing") ∈ lw_tbl := lw_at lw_m1 136 rfl
theorem q234 : (Jvm.Cond.fieldLinkNest "PumpCrossing" (382 : Nat) "PumpCrossing$Crossing" "levels" "[I" "PumpCrossing") ∈ lw_tbl := lw_at lw_m1 138 rfl
theorem q236 : (Jvm.Cond.fieldLinkNest "PumpCrossing" (453 : Nat) "PumpCrossing$Crossing" "weights" "[[I" "PumpCrossing") ∈ lw_tbl := lw_at lw_m1 140 rfl
theorem q238 : (Jvm.Cond.fieldLinkNest "PumpCrossing" (126 : Nat) "PumpCrossing$Crossing" "hours" "I" "PumpCrossing") ∈ lw_tbl := lw_at lw_m1 142 rfl
theorem q241 : (Jvm.Cond.fieldLinkNest "PumpCrossing" (379 : Nat) "PumpCrossing$Crossing" "levelMany" "I" "PumpCrossing") ∈ lw_tbl := lw_at lw_m1 145 rfl
theorem q243 : (Jvm.Cond.fieldLinkNest "PumpCrossing" (321 : Nat) "PumpCrossing$Crossing" "paid" "J" "PumpCrossing") ∈ lw_tbl := lw_at lw_m1 147 rfl
theorem q272 : (Jvm.Cond.classLink "PumpCrossing" (40 : Nat) "PumpCrossing$Run") ∈ lw_all := lw_g (lw_at lw_m1 176 rfl) rfl
theorem q274 : (Jvm.Cond.methodLinkNest "PumpCrossing" (42 : Nat) ({ cls := "PumpCrossing$Run", name := "<init>", desc := "(LPumpCrossing;)V" } : Jvm.MethodName) "PumpCrossing") ∈ lw_tbl := lw_at lw_m1 178 rfl
theorem q282 : (Jvm.Cond.classLink "PumpCrossing" (49 : Nat) "PumpCrossing$Told") ∈ lw_all := lw_g (lw_at lw_m1 186 rfl) rfl
theorem q284 : (Jvm.Cond.methodLinkNest "PumpCrossing" (51 : Nat) ({ cls := "PumpCrossing$Told", name := "<init>", desc := "(LPumpCrossing;)V" } : Jvm.MethodName) "PumpCrossing") ∈ lw_tbl := lw_at lw_m1 188 rfl
theorem q292 : (Jvm.Cond.classLink "PumpCrossing" (66 : Nat) "[[I") ∈ lw_all := lw_g (lw_at lw_m1 196 rfl) rfl
theorem q293 : (Jvm.Cond.classLink "PumpCrossing" (77 : Nat) "[[J") ∈ lw_all := lw_g (lw_at lw_m1 197 rfl) rfl
theorem q295 : (Jvm.Cond.classLink "PumpCrossing" (85 : Nat) "PumpCrossing$Learners") ∈ lw_all := lw_g (lw_at lw_m1 199 rfl) rfl
theorem q297 : (Jvm.Cond.methodLinkNest "PumpCrossing" (87 : Nat) ({ cls := "PumpCrossing$Learners", name := "<init>", desc := "(LPumpCrossing;)V" } : Jvm.MethodName) "PumpCrossing") ∈ lw_tbl := lw_at lw_m1 201 rfl
theorem q304 : (Jvm.Cond.fieldLinkNest "PumpCrossing" (423 : Nat) "PumpCrossing$Learners" "tableB" "[[I" "PumpCrossing") ∈ lw_tbl := lw_at lw_m1 208 rfl
theorem q323 : (Jvm.Cond.classLink "PumpCrossing" (92 : Nat) "PumpCrossing$Tray") ∈ lw_all := lw_g (lw_at lw_m1 227 rfl) rfl
theorem q326 : (Jvm.Cond.methodLinkNest "PumpCrossing" (94 : Nat) ({ cls := "PumpCrossing$Tray", name := "<init>", desc := "()V" } : Jvm.MethodName) "PumpCrossing") ∈ lw_tbl := lw_at lw_m1 230 rfl
theorem q337 : (Jvm.Cond.fieldLink "PumpCrossing" (22 : Nat) "PumpCrossing" "now" "LPumpCrossing$Crossing;") ∈ lw_all := lw_g (lw_at lw_m2 1 rfl) rfl
theorem q338 : (Jvm.Cond.fieldLink "PumpCrossing" (28 : Nat) "PumpCrossing" "images" "[LPumpCrossing$Crossing;") ∈ lw_all := lw_g (lw_at lw_m2 2 rfl) rfl
theorem q339 : (Jvm.Cond.fieldLink "PumpCrossing" (32 : Nat) "PumpCrossing" "tape" "[B") ∈ lw_all := lw_g (lw_at lw_m2 3 rfl) rfl
theorem q340 : (Jvm.Cond.fieldLink "PumpCrossing" (185 : Nat) "PumpCrossing" "taped" "I") ∈ lw_all := lw_g (lw_at lw_m2 4 rfl) rfl
theorem q341 : (Jvm.Cond.fieldLink "PumpCrossing" (192 : Nat) "PumpCrossing" "faultKind" "I") ∈ lw_all := lw_g (lw_at lw_m2 5 rfl) rfl
theorem q342 : (Jvm.Cond.fieldLink "PumpCrossing" (36 : Nat) "PumpCrossing" "faultAt" "I") ∈ lw_all := lw_g (lw_at lw_m2 6 rfl) rfl
theorem q343 : (Jvm.Cond.fieldLink "PumpCrossing" (45 : Nat) "PumpCrossing" "running" "LPumpCrossing$Run;") ∈ lw_all := lw_g (lw_at lw_m2 7 rfl) rfl
theorem q344 : (Jvm.Cond.fieldLink "PumpCrossing" (52 : Nat) "PumpCrossing" "rows" "LPumpCrossing$Told;") ∈ lw_all := lw_g (lw_at lw_m2 8 rfl) rfl
theorem q345 : (Jvm.Cond.fieldLink "PumpCrossing" (56 : Nat) "PumpCrossing" "facts" "[I") ∈ lw_all := lw_g (lw_at lw_m2 9 rfl) rfl
theorem q346 : (Jvm.Cond.fieldLink "PumpCrossing" (60 : Nat) "PumpCrossing" "next" "[I") ∈ lw_all := lw_g (lw_at lw_m2 10 rfl) rfl
theorem q347 : (Jvm.Cond.fieldLink "PumpCrossing" (63 : Nat) "PumpCrossing" "prices" "[I") ∈ lw_all := lw_g (lw_at lw_m2 11 rfl) rfl
theorem q348 : (Jvm.Cond.fieldLink "PumpCrossing" (355 : Nat) "PumpCrossing" "up" "J") ∈ lw_all := lw_g (lw_at lw_m2 12 rfl) rfl
theorem q349 : (Jvm.Cond.fieldLink "PumpCrossing" (358 : Nat) "PumpCrossing" "low" "J") ∈ lw_all := lw_g (lw_at lw_m2 13 rfl) rfl
theorem q351 : (Jvm.Cond.fieldLink "PumpCrossing" (68 : Nat) "PumpCrossing" "gainA" "[[I") ∈ lw_all := lw_g (lw_at lw_m2 15 rfl) rfl
theorem q353 : (Jvm.Cond.fieldLink "PumpCrossing" (71 : Nat) "PumpCrossing" "gainB" "[[I") ∈ lw_all := lw_g (lw_at lw_m2 17 rfl) rfl
theorem q354 : (Jvm.Cond.fieldLink "PumpCrossing" (74 : Nat) "PumpCrossing" "chosen" "[[I") ∈ lw_all := lw_g (lw_at lw_m2 18 rfl) rfl
theorem q355 : (Jvm.Cond.fieldLink "PumpCrossing" (79 : Nat) "PumpCrossing" "mine" "[[J") ∈ lw_all := lw_g (lw_at lw_m2 19 rfl) rfl
theorem q356 : (Jvm.Cond.fieldLink "PumpCrossing" (82 : Nat) "PumpCrossing" "theirs" "[[J") ∈ lw_all := lw_g (lw_at lw_m2 20 rfl) rfl
theorem q357 : (Jvm.Cond.fieldLink "PumpCrossing" (88 : Nat) "PumpCrossing" "learners" "LPumpCrossing$Learners;") ∈ lw_all := lw_g (lw_at lw_m2 21 rfl) rfl
theorem q358 : (Jvm.Cond.fieldLink "PumpCrossing" (95 : Nat) "PumpCrossing" "trays" "[LPumpCrossing$Tray;") ∈ lw_all := lw_g (lw_at lw_m2 22 rfl) rfl
theorem q359 : (Jvm.Cond.fieldLink "PumpCrossing" (99 : Nat) "PumpCrossing" "paid" "[[I") ∈ lw_all := lw_g (lw_at lw_m2 23 rfl) rfl
theorem q360 : (Jvm.Cond.lays "PumpCrossing" "PumpCrossing" "now" "LPumpCrossing$Crossing;") ∈ lw_all := lw_g (lw_at lw_m2 24 rfl) rfl
theorem q361 : (Jvm.Cond.soleField "PumpCrossing" "now") ∈ lw_all := lw_g (lw_at lw_m2 25 rfl) rfl
theorem q362 : (Jvm.Cond.laysFinal "PumpCrossing" "PumpCrossing" "images" "[LPumpCrossing$Crossing;") ∈ lw_all := lw_g (lw_at lw_m2 26 rfl) rfl
theorem q363 : (Jvm.Cond.soleField "PumpCrossing" "images") ∈ lw_all := lw_g (lw_at lw_m2 27 rfl) rfl
theorem q364 : (Jvm.Cond.laysFinal "PumpCrossing" "PumpCrossing" "tape" "[B") ∈ lw_all := lw_g (lw_at lw_m2 28 rfl) rfl
theorem q365 : (Jvm.Cond.soleField "PumpCrossing" "tape") ∈ lw_all := lw_g (lw_at lw_m2 29 rfl) rfl
theorem q366 : (Jvm.Cond.lays "PumpCrossing" "PumpCrossing" "taped" "I") ∈ lw_all := lw_g (lw_at lw_m2 30 rfl) rfl
theorem q367 : (Jvm.Cond.soleField "PumpCrossing" "taped") ∈ lw_all := lw_g (lw_at lw_m2 31 rfl) rfl
theorem q368 : (Jvm.Cond.lays "PumpCrossing" "PumpCrossing" "faultKind" "I") ∈ lw_all := lw_g (lw_at lw_m2 32 rfl) rfl
theorem q369 : (Jvm.Cond.soleField "PumpCrossing" "faultKind") ∈ lw_all := lw_g (lw_at lw_m2 33 rfl) rfl
theorem q370 : (Jvm.Cond.lays "PumpCrossing" "PumpCrossing" "faultAt" "I") ∈ lw_all := lw_g (lw_at lw_m2 34 rfl) rfl
theorem q371 : (Jvm.Cond.soleField "PumpCrossing" "faultAt") ∈ lw_all := lw_g (lw_at lw_m2 35 rfl) rfl
theorem q372 : (Jvm.Cond.laysFinal "PumpCrossing" "PumpCrossing" "running" "LPumpCrossing$Run;") ∈ lw_all := lw_g (lw_at lw_m2 36 rfl) rfl
theorem q373 : (Jvm.Cond.soleField "PumpCrossing" "running") ∈ lw_all := lw_g (lw_at lw_m2 37 rfl) rfl
theorem q374 : (Jvm.Cond.laysFinal "PumpCrossing" "PumpCrossing" "rows" "LPumpCrossing$Told;") ∈ lw_all := lw_g (lw_at lw_m2 38 rfl) rfl
theorem q375 : (Jvm.Cond.soleField "PumpCrossing" "rows") ∈ lw_all := lw_g (lw_at lw_m2 39 rfl) rfl
theorem q376 : (Jvm.Cond.laysFinal "PumpCrossing" "PumpCrossing" "facts" "[I") ∈ lw_all := lw_g (lw_at lw_m2 40 rfl) rfl
theorem q377 : (Jvm.Cond.soleField "PumpCrossing" "facts") ∈ lw_all := lw_g (lw_at lw_m2 41 rfl) rfl
theorem q378 : (Jvm.Cond.laysFinal "PumpCrossing" "PumpCrossing" "next" "[I") ∈ lw_all := lw_g (lw_at lw_m2 42 rfl) rfl
theorem q379 : (Jvm.Cond.soleField "PumpCrossing" "next") ∈ lw_all := lw_g (lw_at lw_m2 43 rfl) rfl
theorem q380 : (Jvm.Cond.laysFinal "PumpCrossing" "PumpCrossing" "prices" "[I") ∈ lw_all := lw_g (lw_at lw_m2 44 rfl) rfl
theorem q381 : (Jvm.Cond.soleField "PumpCrossing" "prices") ∈ lw_all := lw_g (lw_at lw_m2 45 rfl) rfl
theorem q382 : (Jvm.Cond.lays "PumpCrossing" "PumpCrossing" "up" "J") ∈ lw_all := lw_g (lw_at lw_m2 46 rfl) rfl
theorem q383 : (Jvm.Cond.soleField "PumpCrossing" "up") ∈ lw_all := lw_g (lw_at lw_m2 47 rfl) rfl
theorem q384 : (Jvm.Cond.lays "PumpCrossing" "PumpCrossing" "low" "J") ∈ lw_all := lw_g (lw_at lw_m2 48 rfl) rfl
theorem q385 : (Jvm.Cond.soleField "PumpCrossing" "low") ∈ lw_all := lw_g (lw_at lw_m2 49 rfl) rfl
theorem q386 : (Jvm.Cond.laysFinal "PumpCrossing" "PumpCrossing" "gainA" "[[I") ∈ lw_all := lw_g (lw_at lw_m2 50 rfl) rfl
theorem q387 : (Jvm.Cond.soleField "PumpCrossing" "gainA") ∈ lw_all := lw_g (lw_at lw_m2 51 rfl) rfl
theorem q388 : (Jvm.Cond.laysFinal "PumpCrossing" "PumpCrossing" "gainB" "[[I") ∈ lw_all := lw_g (lw_at lw_m2 52 rfl) rfl
theorem q389 : (Jvm.Cond.soleField "PumpCrossing" "gainB") ∈ lw_all := lw_g (lw_at lw_m2 53 rfl) rfl
theorem q390 : (Jvm.Cond.laysFinal "PumpCrossing" "PumpCrossing" "chosen" "[[I") ∈ lw_all := lw_g (lw_at lw_m2 54 rfl) rfl
theorem q391 : (Jvm.Cond.soleField "PumpCrossing" "chosen") ∈ lw_all := lw_g (lw_at lw_m2 55 rfl) rfl
theorem q392 : (Jvm.Cond.laysFinal "PumpCrossing" "PumpCrossing" "mine" "[[J") ∈ lw_all := lw_g (lw_at lw_m2 56 rfl) rfl
theorem q393 : (Jvm.Cond.soleField "PumpCrossing" "mine") ∈ lw_all := lw_g (lw_at lw_m2 57 rfl) rfl
theorem q394 : (Jvm.Cond.laysFinal "PumpCrossing" "PumpCrossing" "theirs" "[[J") ∈ lw_all := lw_g (lw_at lw_m2 58 rfl) rfl
theorem q395 : (Jvm.Cond.soleField "PumpCrossing" "theirs") ∈ lw_all := lw_g (lw_at lw_m2 59 rfl) rfl
theorem q396 : (Jvm.Cond.laysFinal "PumpCrossing" "PumpCrossing" "learners" "LPumpCrossing$Learners;") ∈ lw_all := lw_g (lw_at lw_m2 60 rfl) rfl
theorem q397 : (Jvm.Cond.soleField "PumpCrossing" "learners") ∈ lw_all := lw_g (lw_at lw_m2 61 rfl) rfl
theorem q398 : (Jvm.Cond.laysFinal "PumpCrossing" "PumpCrossing" "trays" "[LPumpCrossing$Tray;") ∈ lw_all := lw_g (lw_at lw_m2 62 rfl) rfl
theorem q399 : (Jvm.Cond.soleField "PumpCrossing" "trays") ∈ lw_all := lw_g (lw_at lw_m2 63 rfl) rfl
theorem q400 : (Jvm.Cond.laysFinal "PumpCrossing" "PumpCrossing" "paid" "[[I") ∈ lw_all := lw_g (lw_at lw_m2 64 rfl) rfl
theorem q401 : (Jvm.Cond.soleField "PumpCrossing" "paid") ∈ lw_all := lw_g (lw_at lw_m2 65 rfl) rfl
theorem q402 : (Jvm.Cond.superclass "PumpCrossing" "java/lang/Object") ∈ lw_all := lw_g (lw_at lw_m2 66 rfl) rfl
theorem q404 : (Jvm.Cond.instanceMethod ({ cls := "PumpCrossing", name := "feed", desc := "(IIIII)I" } : Jvm.MethodName)) ∈ lw_all := lw_g (lw_at lw_m2 68 rfl) rfl
theorem q405 : (Jvm.Cond.selects "PumpCrossing" ({ cls := "PumpCrossing", name := "feed", desc := "(IIIII)I" } : Jvm.MethodName) ({ cls := "PumpCrossing", name := "feed", desc := "(IIIII)I" } : Jvm.MethodName)) ∈ lw_all := lw_g (lw_at lw_m2 69 rfl) rfl
theorem q406 : (Jvm.Cond.code ({ cls := "PumpCrossing", name := "feed", desc := "(IIIII)I" } : Jvm.MethodName) prog_1_method_13_code (6 : Nat) (Option.some Jvm.ClassFile.FieldType.int)) ∈ lw_all := lw_g (lw_at lw_m2 70 rfl) rfl
theorem q407 : (Jvm.Cond.methodLink "PumpCrossing" (188 : Nat) ({ cls := "PumpCrossing", name := "four", desc := "(I)V" } : Jvm.MethodName)) ∈ lw_all := lw_g (lw_at lw_m2 71 rfl) rfl
theorem q408 : (Jvm.Cond.privateMethod ({ cls := "PumpCrossing", name := "four", desc := "(I)V" } : Jvm.MethodName)) ∈ lw_tbl := lw_at lw_m2 72 rfl
theorem q409 : (Jvm.Cond.instanceMethod ({ cls := "PumpCrossing", name := "four", desc := "(I)V" } : Jvm.MethodName)) ∈ lw_all := lw_g (lw_at lw_m2 73 rfl) rfl
theorem q410 : (Jvm.Cond.code ({ cls := "PumpCrossing", name := "four", desc := "(I)V" } : Jvm.MethodName) prog_1_method_14_code (3 : Nat) (Option.none : Option Jvm.ClassFile.FieldType)) ∈ lw_all := lw_g (lw_at lw_m2 74 rfl) rfl
theorem q412 : (Jvm.Cond.instanceMethod ({ cls := "PumpCrossing", name := "fault", desc := "(I)I" } : Jvm.MethodName)) ∈ lw_all := lw_g (lw_at lw_m2 76 rfl) rfl
theorem q413 : (Jvm.Cond.selects "PumpCrossing" ({ cls := "PumpCrossing", name := "fault", desc := "(I)I" } : Jvm.MethodName) ({ cls := "PumpCrossing", name := "fault", desc := "(I)I" } : Jvm.MethodName)) ∈ lw_all := lw_g (lw_at lw_m2 77 rfl) rfl
theorem q414 : (Jvm.Cond.code ({ cls := "PumpCrossing", name := "fault", desc := "(I)I" } : Jvm.MethodName) prog_1_method_18_code (2 : Nat) (Option.some Jvm.ClassFile.FieldType.int)) ∈ lw_all := lw_g (lw_at lw_m2 78 rfl) rfl
theorem q416 : (Jvm.Cond.instanceMethod ({ cls := "PumpCrossing", name := "round", desc := "()I" } : Jvm.MethodName)) ∈ lw_all := lw_g (lw_at lw_m2 80 rfl) rfl
theorem q417 : (Jvm.Cond.selects "PumpCrossing" ({ cls := "PumpCrossing", name := "round", desc := "()I" } : Jvm.MethodName) ({ cls := "PumpCrossing", name := "round", desc := "()I" } : Jvm.MethodName)) ∈ lw_all := lw_g (lw_at lw_m2 81 rfl) rfl
theorem q418 : (Jvm.Cond.code ({ cls := "PumpCrossing", name := "round", desc := "()I" } : Jvm.MethodName) prog_1_method_31_code (4 : Nat) (Option.some Jvm.ClassFile.FieldType.int)) ∈ lw_all := lw_g (lw_at lw_m2 82 rfl) rfl
theorem q419 : (Jvm.Cond.methodLink "PumpCrossing" (328 : Nat) ({ cls := "PumpCrossing$Crossing", name := "isBoard", desc := "(I)Z" } : Jvm.MethodName)) ∈ lw_all := lw_g (lw_at lw_m2 83 rfl) rfl
theorem q423 : (Jvm.Cond.methodLink "PumpCrossing" (339 : Nat) ({ cls := "PumpCrossing", name := "areAlike", desc := "(II)Z" } : Jvm.MethodName)) ∈ lw_all := lw_g (lw_at lw_m2 87 rfl) rfl
theorem q424 : (Jvm.Cond.privateMethod ({ cls := "PumpCrossing", name := "areAlike", desc := "(II)Z" } : Jvm.MethodName)) ∈ lw_tbl := lw_at lw_m2 88 rfl
theorem q425 : (Jvm.Cond.instanceMethod ({ cls := "PumpCrossing", name := "areAlike", desc := "(II)Z" } : Jvm.MethodName)) ∈ lw_all := lw_g (lw_at lw_m2 89 rfl) rfl
theorem q426 : (Jvm.Cond.code ({ cls := "PumpCrossing", name := "areAlike", desc := "(II)Z" } : Jvm.MethodName) prog_1_method_30_code (4 : Nat) (Option.some Jvm.ClassFile.FieldType.boolean)) ∈ lw_all := lw_g (lw_at lw_m2 90 rfl) rfl
theorem q427 : (Jvm.Cond.methodLink "PumpCrossing" (102 : Nat) ({ cls := "PumpCrossing$Crossing", name := "many", desc := "()I" } : Jvm.MethodName)) ∈ lw_all := lw_g (lw_at lw_m2 91 rfl) rfl
theorem q435 : (Jvm.Cond.methodLink "PumpCrossing" (332 : Nat) ({ cls := "PumpCrossing$Crossing", name := "at", desc := "(II)I" } : Jvm.MethodName)) ∈ lw_all := lw_g (lw_at lw_m2 99 rfl) rfl
theorem q440 : (Jvm.Cond.instanceMethod ({ cls := "PumpCrossing", name := "upper", desc := "()J" } : Jvm.MethodName)) ∈ lw_all := lw_g (lw_at lw_m2 104 rfl) rfl
theorem q441 : (Jvm.Cond.selects "PumpCrossing" ({ cls := "PumpCrossing", name := "upper", desc := "()J" } : Jvm.MethodName) ({ cls := "PumpCrossing", name := "upper", desc := "()J" } : Jvm.MethodName)) ∈ lw_all := lw_g (lw_at lw_m2 105 rfl) rfl
theorem q442 : (Jvm.Cond.code ({ cls := "PumpCrossing", name := "upper", desc := "()J" } : Jvm.MethodName) prog_1_method_38_code (1 : Nat) (Option.some Jvm.ClassFile.FieldType.long)) ∈ lw_all := lw_g (lw_at lw_m2 106 rfl) rfl
theorem q444 : (Jvm.Cond.instanceMethod ({ cls := "PumpCrossing", name := "lower", desc := "()J" } : Jvm.MethodName)) ∈ lw_all := lw_g (lw_at lw_m2 108 rfl) rfl
theorem q445 : (Jvm.Cond.selects "PumpCrossing" ({ cls := "PumpCrossing", name := "lower", desc := "()J" } : Jvm.MethodName) ({ cls := "PumpCrossing", name := "lower", desc := "()J" } : Jvm.MethodName)) ∈ lw_all := lw_g (lw_at lw_m2 109 rfl) rfl
theorem q446 : (Jvm.Cond.code ({ cls := "PumpCrossing", name := "lower", desc := "()J" } : Jvm.MethodName) prog_1_method_39_code (1 : Nat) (Option.some Jvm.ClassFile.FieldType.long)) ∈ lw_all := lw_g (lw_at lw_m2 110 rfl) rfl
theorem q448 : (Jvm.Cond.instanceMethod ({ cls := "PumpCrossing", name := "odds", desc := "()V" } : Jvm.MethodName)) ∈ lw_all := lw_g (lw_at lw_m2 112 rfl) rfl
theorem q449 : (Jvm.Cond.selects "PumpCrossing" ({ cls := "PumpCrossing", name := "odds", desc := "()V" } : Jvm.MethodName) ({ cls := "PumpCrossing", name := "odds", desc := "()V" } : Jvm.MethodName)) ∈ lw_all := lw_g (lw_at lw_m2 113 rfl) rfl
theorem q450 : (Jvm.Cond.code ({ cls := "PumpCrossing", name := "odds", desc := "()V" } : Jvm.MethodName) prog_1_method_65_code (10 : Nat) (Option.none : Option Jvm.ClassFile.FieldType)) ∈ lw_all := lw_g (lw_at lw_m2 114 rfl) rfl
theorem q451 : (Jvm.Cond.methodLink "PumpCrossing" (162 : Nat) ({ cls := "java/util/ArrayList", name := "size", desc := "()I" } : Jvm.MethodName)) ∈ lw_all := lw_g (lw_at lw_m2 115 rfl) rfl
theorem q452 : (Jvm.Cond.methodLink "PumpCrossing" (118 : Nat) ({ cls := "java/util/ArrayList", name := "get", desc := "(I)Ljava/lang/Object;" } : Jvm.MethodName)) ∈ lw_all := lw_g (lw_at lw_m2 116 rfl) rfl
theorem q466 : (Jvm.Cond.classLink "PumpCrossing" (465 : Nat) "[I") ∈ lw_all := lw_g (lw_at lw_m2 130 rfl) rfl
theorem q467 : (Jvm.Cond.methodLink "PumpCrossing" (375 : Nat) ({ cls := "PumpCrossing", name := "tell", desc := "(JJ)V" } : Jvm.MethodName)) ∈ lw_all := lw_g (lw_at lw_m2 131 rfl) rfl
theorem q468 : (Jvm.Cond.privateMethod ({ cls := "PumpCrossing", name := "tell", desc := "(JJ)V" } : Jvm.MethodName)) ∈ lw_tbl := lw_at lw_m2 132 rfl
theorem q469 : (Jvm.Cond.instanceMethod ({ cls := "PumpCrossing", name := "tell", desc := "(JJ)V" } : Jvm.MethodName)) ∈ lw_all := lw_g (lw_at lw_m2 133 rfl) rfl
theorem q470 : (Jvm.Cond.code ({ cls := "PumpCrossing", name := "tell", desc := "(JJ)V" } : Jvm.MethodName) prog_1_method_37_code (7 : Nat) (Option.none : Option Jvm.ClassFile.FieldType)) ∈ lw_all := lw_g (lw_at lw_m2 134 rfl) rfl
theorem q471 : (Jvm.Cond.methodLink "PumpCrossing" (351 : Nat) ({ cls := "PumpCrossing", name := "common", desc := "(JJ)J" } : Jvm.MethodName)) ∈ lw_all := lw_g (lw_at lw_m2 135 rfl) rfl
theorem q472 : (Jvm.Cond.static ({ cls := "PumpCrossing", name := "common", desc := "(JJ)J" } : Jvm.MethodName)) ∈ lw_all := lw_g (lw_at lw_m2 136 rfl) rfl
theorem q473 : (Jvm.Cond.code ({ cls := "PumpCrossing", name := "common", desc := "(JJ)J" } : Jvm.MethodName) prog_1_method_36_code (10 : Nat) (Option.some Jvm.ClassFile.FieldType.long)) ∈ lw_all := lw_g (lw_at lw_m2 137 rfl) rfl
theorem q475 : (Jvm.Cond.instanceMethod ({ cls := "PumpCrossing", name := "count", desc := "(I)J" } : Jvm.MethodName)) ∈ lw_all := lw_g (lw_at lw_m2 139 rfl) rfl
theorem q476 : (Jvm.Cond.selects "PumpCrossing" ({ cls := "PumpCrossing", name := "count", desc := "(I)J" } : Jvm.MethodName) ({ cls := "PumpCrossing", name := "count", desc := "(I)J" } : Jvm.MethodName)) ∈ lw_all := lw_g (lw_at lw_m2 140 rfl) rfl
theorem q477 : (Jvm.Cond.code ({ cls := "PumpCrossing", name := "count", desc := "(I)J" } : Jvm.MethodName) prog_1_method_72_code (2 : Nat) (Option.some Jvm.ClassFile.FieldType.long)) ∈ lw_all := lw_g (lw_at lw_m2 141 rfl) rfl
theorem q478 : (Jvm.Cond.methodLink "PumpCrossing" (238 : Nat) ({ cls := "java/lang/Math", name := "min", desc := "(II)I" } : Jvm.MethodName)) ∈ lw_all := lw_g (lw_at lw_m2 142 rfl) rfl
theorem q481 : (Jvm.Cond.constantLong "PumpCrossing" (478 : Nat) (-1 : Int64)) ∈ lw_all := lw_g (lw_at lw_m2 145 rfl) rfl
theorem q488 : (Jvm.Cond.instanceMethod ({ cls := "PumpCrossing", name := "station", desc := "(III)I" } : Jvm.MethodName)) ∈ lw_all := lw_g (lw_at lw_m2 152 rfl) rfl
theorem q489 : (Jvm.Cond.selects "PumpCrossing" ({ cls := "PumpCrossing", name := "station", desc := "(III)I" } : Jvm.MethodName) ({ cls := "PumpCrossing", name := "station", desc := "(III)I" } : Jvm.MethodName)) ∈ lw_all := lw_g (lw_at lw_m2 153 rfl) rfl
theorem q490 : (Jvm.Cond.code ({ cls := "PumpCrossing", name := "station", desc := "(III)I" } : Jvm.MethodName) prog_1_method_9_code (4 : Nat) (Option.some Jvm.ClassFile.FieldType.int)) ∈ lw_all := lw_g (lw_at lw_m2 154 rfl) rfl
theorem q491 : (Jvm.Cond.methodLink "PumpCrossing" (132 : Nat) ({ cls := "java/util/ArrayList", name := "isEmpty", desc := "()Z" } : Jvm.MethodName)) ∈ lw_all := lw_g (lw_at lw_m2 155 rfl) rfl
theorem q495 : (Jvm.Cond.methodLink "PumpCrossing" (136 : Nat) ({ cls := "PumpCrossing", name := "can", desc := "(Z)V" } : Jvm.MethodName)) ∈ lw_all := lw_g (lw_at lw_m2 159 rfl) rfl
theorem q496 : (Jvm.Cond.static ({ cls := "PumpCrossing", name := "can", desc := "(Z)V" } : Jvm.MethodName)) ∈ lw_all := lw_g (lw_at lw_m2 160 rfl) rfl
theorem q497 : (Jvm.Cond.code ({ cls := "PumpCrossing", name := "can", desc := "(Z)V" } : Jvm.MethodName) prog_1_method_4_code (1 : Nat) (Option.none : Option Jvm.ClassFile.FieldType)) ∈ lw_all := lw_g (lw_at lw_m2 161 rfl) rfl
theorem q498 : (Jvm.Cond.classLink "PumpCrossing" (7 : Nat) "java/lang/IllegalStateException") ∈ lw_all := lw_g (lw_at lw_m2 162 rfl) rfl
theorem q557 : (Jvm.Cond.methodLink "PumpCrossing" (9 : Nat) ({ cls := "java/lang/IllegalStateException", name := "<init>", desc := "()V" } : Jvm.MethodName)) ∈ lw_all := lw_g (lw_at lw_m2 221 rfl) rfl
theorem q580 : (Jvm.Cond.constantLong "PumpCrossing" (139 : Nat) (99 : Int64)) ∈ lw_all := lw_g (lw_at lw_m3 4 rfl) rfl
theorem q581 : (Jvm.Cond.methodLink "PumpCrossing" (106 : Nat) ({ cls := "PumpCrossing", name := "isIn", desc := "(JJJ)Z" } : Jvm.MethodName)) ∈ lw_all := lw_g (lw_at lw_m3 5 rfl) rfl
theorem q582 : (Jvm.Cond.static ({ cls := "PumpCrossing", name := "isIn", desc := "(JJJ)Z" } : Jvm.MethodName)) ∈ lw_all := lw_g (lw_at lw_m3 6 rfl) rfl
theorem q583 : (Jvm.Cond.code ({ cls := "PumpCrossing", name := "isIn", desc := "(JJJ)Z" } : Jvm.MethodName) prog_1_method_1_code (6 : Nat) (Option.some Jvm.ClassFile.FieldType.boolean)) ∈ lw_all := lw_g (lw_at lw_m3 7 rfl) rfl
theorem q584 : (Jvm.Cond.constantLong "PumpCrossing" (141 : Nat) (3 : Int64)) ∈ lw_all := lw_g (lw_at lw_m3 8 rfl) rfl
theorem q585 : (Jvm.Cond.methodLink "PumpCrossing" (143 : Nat) ({ cls := "PumpCrossing", name := "right", desc := "(Z)V" } : Jvm.MethodName)) ∈ lw_all := lw_g (lw_at lw_m3 9 rfl) rfl
theorem q586 : (Jvm.Cond.static ({ cls := "PumpCrossing", name := "right", desc := "(Z)V" } : Jvm.MethodName)) ∈ lw_all := lw_g (lw_at lw_m3 10 rfl) rfl
theorem q587 : (Jvm.Cond.code ({ cls := "PumpCrossing", name := "right", desc := "(Z)V" } : Jvm.MethodName) prog_1_method_3_code (1 : Nat) (Option.none : Option Jvm.ClassFile.FieldType)) ∈ lw_all := lw_g (lw_at lw_m3 11 rfl) rfl
theorem q588 : (Jvm.Cond.classLink "PumpCrossing" (1 : Nat) "java/lang/IllegalArgumentException") ∈ lw_all := lw_g (lw_at lw_m3 12 rfl) rfl
theorem q597 : (Jvm.Cond.methodLink "PumpCrossing" (3 : Nat) ({ cls := "java/lang/IllegalArgumentException", name := "<init>", desc := "()V" } : Jvm.MethodName)) ∈ lw_all := lw_g (lw_at lw_m3 21 rfl) rfl
theorem q603 : (Jvm.Cond.classLink "PumpCrossing" (124 : Nat) "PumpCrossing$Station") ∈ lw_all := lw_g (lw_at lw_m3 27 rfl) rfl
theorem q605 : (Jvm.Cond.methodLink "PumpCrossing" (146 : Nat) ({ cls := "PumpCrossing$Station", name := "<init>", desc := "(III)V" } : Jvm.MethodName)) ∈ lw_all := lw_g (lw_at lw_m3 29 rfl) rfl
theorem q612 : (Jvm.Cond.fieldLinkNest "PumpCrossing" (170 : Nat) "PumpCrossing$Station" "cost" "I" "PumpCrossing") ∈ lw_tbl := lw_at lw_m3 36 rfl
theorem q614 : (Jvm.Cond.fieldLinkNest "PumpCrossing" (182 : Nat) "PumpCrossing$Station" "late" "I" "PumpCrossing") ∈ lw_tbl := lw_at lw_m3 38 rfl
theorem q616 : (Jvm.Cond.fieldLinkNest "PumpCrossing" (299 : Nat) "PumpCrossing$Station" "now" "I" "PumpCrossing") ∈ lw_tbl := lw_at lw_m3 40 rfl
theorem q619 : (Jvm.Cond.fieldLinkNest "PumpCrossing" (301 : Nat) "PumpCrossing$Station" "changed" "I" "PumpCrossing") ∈ lw_tbl := lw_at lw_m3 43 rfl
theorem q623 : (Jvm.Cond.fieldLinkNest "PumpCrossing" (312 : Nat) "PumpCrossing$Station" "profit" "J" "PumpCrossing") ∈ lw_tbl := lw_at lw_m3 47 rfl
theorem q625 : (Jvm.Cond.fieldLinkNest "PumpCrossing" (318 : Nat) "PumpCrossing$Station" "sold" "J" "PumpCrossing") ∈ lw_tbl := lw_at lw_m3 49 rfl
theorem q627 : (Jvm.Cond.fieldLinkNest "PumpCrossing" (220 : Nat) "PumpCrossing$Station" "rules" "Ljava/util/ArrayList;" "PumpCrossing") ∈ lw_tbl := lw_at lw_m3 51 rfl
theorem q645 : (Jvm.Cond.methodLink "PumpCrossing" (149 : Nat) ({ cls := "java/util/ArrayList", name := "add", desc := "(Ljava/lang/Object;)Z" } : Jvm.MethodName)) ∈ lw_all := lw_g (lw_at lw_m3 69 rfl) rfl
theorem q677 : (Jvm.Cond.selects "PumpCrossing" ({ cls := "java/lang/Object", name := "getClass", desc := "()Ljava/lang/Class;" } : Jvm.MethodName) ({ cls := "java/lang/Object", name := "getClass", desc := "()Ljava/lang/Class;" } : Jvm.MethodName)) ∈ lw_all := lw_g (lw_at lw_m3 101 rfl) rfl
theorem q727 : (Jvm.Cond.instanceMethod ({ cls := "PumpCrossing", name := "driver", desc := "(IIII)I" } : Jvm.MethodName)) ∈ lw_all := lw_g (lw_at lw_m3 151 rfl) rfl
theorem q728 : (Jvm.Cond.selects "PumpCrossing" ({ cls := "PumpCrossing", name := "driver", desc := "(IIII)I" } : Jvm.MethodName) ({ cls := "PumpCrossing", name := "driver", desc := "(IIII)I" } : Jvm.MethodName)) ∈ lw_all := lw_g (lw_at lw_m3 152 rfl) rfl
theorem q729 : (Jvm.Cond.code ({ cls := "PumpCrossing", name := "driver", desc := "(IIII)I" } : Jvm.MethodName) prog_1_method_10_code (5 : Nat) (Option.some Jvm.ClassFile.FieldType.int)) ∈ lw_all := lw_g (lw_at lw_m3 153 rfl) rfl
theorem q730 : (Jvm.Cond.methodLink "PumpCrossing" (153 : Nat) ({ cls := "PumpCrossing", name := "stationOf", desc := "(I)LPumpCrossing$Station;" } : Jvm.MethodName)) ∈ lw_all := lw_g (lw_at lw_m3 154 rfl) rfl
theorem q731 : (Jvm.Cond.privateMethod ({ cls := "PumpCrossing", name := "stationOf", desc := "(I)LPumpCrossing$Station;" } : Jvm.MethodName)) ∈ lw_tbl := lw_at lw_m3 155 rfl
theorem q732 : (Jvm.Cond.instanceMethod ({ cls := "PumpCrossing", name := "stationOf", desc := "(I)LPumpCrossing$Station;" } : Jvm.MethodName)) ∈ lw_all := lw_g (lw_at lw_m3 156 rfl) rfl
theorem q733 : (Jvm.Cond.code ({ cls := "PumpCrossing", name := "stationOf", desc := "(I)LPumpCrossing$Station;" } : Jvm.MethodName) prog_1_method_8_code (2 : Nat) (Option.some (Jvm.ClassFile.FieldType.object "PumpCrossing$Station"))) ∈ lw_all := lw_g (lw_at lw_m3 157 rfl) rfl
theorem q734 : (Jvm.Cond.methodLink "PumpCrossing" (110 : Nat) ({ cls := "PumpCrossing", name := "there", desc := "(Z)V" } : Jvm.MethodName)) ∈ lw_all := lw_g (lw_at lw_m3 158 rfl) rfl
theorem q735 : (Jvm.Cond.static ({ cls := "PumpCrossing", name := "there", desc := "(Z)V" } : Jvm.MethodName)) ∈ lw_all := lw_g (lw_at lw_m3 159 rfl) rfl
theorem q736 : (Jvm.Cond.code ({ cls := "PumpCrossing", name := "there", desc := "(Z)V" } : Jvm.MethodName) prog_1_method_5_code (1 : Nat) (Option.none : Option Jvm.ClassFile.FieldType)) ∈ lw_all := lw_g (lw_at lw_m3 160 rfl) rfl
theorem q737 : (Jvm.Cond.classLink "PumpCrossing" (10 : Nat) "java/util/NoSuchElementException") ∈ lw_all := lw_g (lw_at lw_m3 161 rfl) rfl
theorem q746 : (Jvm.Cond.methodLink "PumpCrossing" (12 : Nat) ({ cls := "java/util/NoSuchElementException", name := "<init>", desc := "()V" } : Jvm.MethodName)) ∈ lw_all := lw_g (lw_at lw_m3 170 rfl) rfl
theorem q752 : (Jvm.Cond.constantLong "PumpCrossing" (157 : Nat) (20 : Int64)) ∈ lw_all := lw_g (lw_at lw_m3 176 rfl) rfl
theorem q753 : (Jvm.Cond.classLink "PumpCrossing" (165 : Nat) "PumpCrossing$Driver") ∈ lw_all := lw_g (lw_at lw_m3 177 rfl) rfl
theorem q755 : (Jvm.Cond.methodLink "PumpCrossing" (167 : Nat) ({ cls := "PumpCrossing$Driver", name := "<init>", desc := "(IIII)V" } : Jvm.MethodName)) ∈ lw_all := lw_g (lw_at lw_m3 179 rfl) rfl
theorem q760 : (Jvm.Cond.fieldLinkNest "PumpCrossing" (316 : Nat) "PumpCrossing$Driver" "many" "I" "PumpCrossing") ∈ lw_tbl := lw_at lw_m3 184 rfl
theorem q762 : (Jvm.Cond.fieldLinkNest "PumpCrossing" (279 : Nat) "PumpCrossing$Driver" "habit" "I" "PumpCrossing") ∈ lw_tbl := lw_at lw_m3 186 rfl
theorem q764 : (Jvm.Cond.fieldLinkNest "PumpCrossing" (286 : Nat) "PumpCrossing$Driver" "know" "I" "PumpCrossing") ∈ lw_tbl := lw_at lw_m3 188 rfl
theorem q766 : (Jvm.Cond.fieldLinkNest "PumpCrossing" (292 : Nat) "PumpCrossing$Driver" "detour" "I" "PumpCrossing") ∈ lw_tbl := lw_at lw_m3 190 rfl
theorem q780 : (Jvm.Cond.instanceMethod ({ cls := "PumpCrossing", name := "cost", desc := "(II)I" } : Jvm.MethodName)) ∈ lw_all := lw_g (lw_at lw_m3 204 rfl) rfl
theorem q781 : (Jvm.Cond.selects "PumpCrossing" ({ cls := "PumpCrossing", name := "cost", desc := "(II)I" } : Jvm.MethodName) ({ cls := "PumpCrossing", name := "cost", desc := "(II)I" } : Jvm.MethodName)) ∈ lw_all := lw_g (lw_at lw_m3 205 rfl) rfl
theorem q782 : (Jvm.Cond.code ({ cls := "PumpCrossing", name := "cost", desc := "(II)I" } : Jvm.MethodName) prog_1_method_11_code (5 : Nat) (Option.some Jvm.ClassFile.FieldType.int)) ∈ lw_all := lw_g (lw_at lw_m3 206 rfl) rfl
theorem q783 : (Jvm.Cond.methodLink "PumpCrossing" (176 : Nat) ({ cls := "java/util/ArrayList", name := "remove", desc := "(I)Ljava/lang/Object;" } : Jvm.MethodName)) ∈ lw_all := lw_g (lw_at lw_m3 207 rfl) rfl
theorem q792 : (Jvm.Cond.classLink "PumpCrossing" (179 : Nat) "PumpCrossing$Change") ∈ lw_all := lw_g (lw_at lw_m3 216 rfl) rfl
theorem q794 : (Jvm.Cond.methodLink "PumpCrossing" (181 : Nat) ({ cls := "PumpCrossing$Change", name := "<init>", desc := "(III)V" } : Jvm.MethodName)) ∈ lw_all := lw_g (lw_at lw_m3 218 rfl) rfl
theorem q799 : (Jvm.Cond.fieldLinkNest "PumpCrossing" (365 : Nat) "PumpCrossing$Change" "station" "I" "PumpCrossing") ∈ lw_tbl := lw_at lw_m3 223 rfl
theorem q801 : (Jvm.Cond.fieldLinkNest "PumpCrossing" (363 : Nat) "PumpCrossing$Change" "hour" "I" "PumpCrossing") ∈ lw_tbl := lw_at lw_m3 225 rfl
theorem q803 : (Jvm.Cond.fieldLinkNest "PumpCrossing" (368 : Nat) "PumpCrossing$Change" "by" "I" "PumpCrossing") ∈ lw_tbl := lw_at lw_m3 227 rfl
theorem q815 : (Jvm.Cond.instanceMethod ({ cls := "PumpCrossing", name := "late", desc := "(II)I" } : Jvm.MethodName)) ∈ lw_all := lw_g (lw_at lw_m3 239 rfl) rfl
theorem q816 : (Jvm.Cond.selects "PumpCrossing" ({ cls := "PumpCrossing", name := "late", desc := "(II)I" } : Jvm.MethodName) ({ cls := "PumpCrossing", name := "late", desc := "(II)I" } : Jvm.MethodName)) ∈ lw_all := lw_g (lw_at lw_m4 0 rfl) rfl
theorem q817 : (Jvm.Cond.code ({ cls := "PumpCrossing", name := "late", desc := "(II)I" } : Jvm.MethodName) prog_1_method_12_code (5 : Nat) (Option.some Jvm.ClassFile.FieldType.int)) ∈ lw_all := lw_g (lw_at lw_m4 1 rfl) rfl
theorem q822 : (Jvm.Cond.instanceMethod ({ cls := "PumpCrossing", name := "rules", desc := "(II)I" } : Jvm.MethodName)) ∈ lw_all := lw_g (lw_at lw_m4 6 rfl) rfl
theorem q823 : (Jvm.Cond.selects "PumpCrossing" ({ cls := "PumpCrossing", name := "rules", desc := "(II)I" } : Jvm.MethodName) ({ cls := "PumpCrossing", name := "rules", desc := "(II)I" } : Jvm.MethodName)) ∈ lw_all := lw_g (lw_at lw_m4 7 rfl) rfl
theorem q824 : (Jvm.Cond.code ({ cls := "PumpCrossing", name := "rules", desc := "(II)I" } : Jvm.MethodName) prog_1_method_16_code (6 : Nat) (Option.some Jvm.ClassFile.FieldType.int)) ∈ lw_all := lw_g (lw_at lw_m4 8 rfl) rfl
theorem q825 : (Jvm.Cond.classLink "PumpCrossing" (208 : Nat) "PumpCrossing$RuleReader") ∈ lw_all := lw_g (lw_at lw_m4 9 rfl) rfl
theorem q827 : (Jvm.Cond.methodLink "PumpCrossing" (210 : Nat) ({ cls := "PumpCrossing$RuleReader", name := "<init>", desc := "([BI)V" } : Jvm.MethodName)) ∈ lw_all := lw_g (lw_at lw_m4 11 rfl) rfl
theorem q934 : (Jvm.Cond.fieldLinkNest "PumpCrossing" (217 : Nat) "PumpCrossing$RuleReader" "made" "Ljava/util/ArrayList;" "PumpCrossing") ∈ lw_tbl := lw_at lw_m4 118 rfl
theorem q959 : (Jvm.Cond.methodLink "PumpCrossing" (213 : Nat) ({ cls := "PumpCrossing", name := "reads", desc := "(LPumpCrossing$Reader;)I" } : Jvm.MethodName)) ∈ lw_all := lw_g (lw_at lw_m4 143 rfl) rfl
theorem q960 : (Jvm.Cond.privateMethod ({ cls := "PumpCrossing", name := "reads", desc := "(LPumpCrossing$Reader;)I" } : Jvm.MethodName)) ∈ lw_tbl := lw_at lw_m4 144 rfl
theorem q961 : (Jvm.Cond.instanceMethod ({ cls := "PumpCrossing", name := "reads", desc := "(LPumpCrossing$Reader;)I" } : Jvm.MethodName)) ∈ lw_all := lw_g (lw_at lw_m4 145 rfl) rfl
theorem q962 : (Jvm.Cond.codeWith ({ cls := "PumpCrossing", name := "reads", desc := "(LPumpCrossing$Reader;)I" } : Jvm.MethodName) prog_1_method_15_code (5 : Nat) (Option.some Jvm.ClassFile.FieldType.int) [((12 : Nat), (17 : Nat), (25 : Nat), (200 : Nat)), ((12 : Nat), (17 : Nat), (58 : Nat), (0 : Nat)), ((25 : Nat), (50 : Nat), (58 : Nat), (0 : Nat)), ((58 : Nat), (60 : Nat), (58 : Nat), (0 : Nat))]) ∈ lw_all := lw_g (lw_at lw_m4 146 rfl) rfl
theorem q963 : (Jvm.Cond.classLink "PumpCrossing" (200 : Nat) "PumpCrossing$Bad") ∈ lw_all := lw_g (lw_at lw_m4 147 rfl) rfl
theorem q964 : (Jvm.Cond.methodLink "PumpCrossing" (195 : Nat) ({ cls := "PumpCrossing$Reader", name := "all", desc := "()I" } : Jvm.MethodName)) ∈ lw_all := lw_g (lw_at lw_m4 148 rfl) rfl
theorem q1039 : (Jvm.Cond.fieldLinkNest "PumpCrossing" (202 : Nat) "PumpCrossing$Bad" "kind" "I" "PumpCrossing") ∈ lw_tbl := lw_at lw_m4 223 rfl
theorem q1041 : (Jvm.Cond.fieldLinkNest "PumpCrossing" (205 : Nat) "PumpCrossing$Bad" "place" "I" "PumpCrossing") ∈ lw_tbl := lw_at lw_m4 225 rfl
theorem q1249 : (Jvm.Cond.fieldLinkNest "PumpCrossing" (259 : Nat) "PumpCrossing$Rule" "move" "LPumpCrossing$Move;" "PumpCrossing") ∈ lw_tbl := lw_at lw_m5 193 rfl
theorem q1262 : (Jvm.Cond.instanceMethod ({ cls := "PumpCrossing", name := "law", desc := "(I)I" } : Jvm.MethodName)) ∈ lw_all := lw_g (lw_at lw_m5 206 rfl) rfl
theorem q1263 : (Jvm.Cond.selects "PumpCrossing" ({ cls := "PumpCrossing", name := "law", desc := "(I)I" } : Jvm.MethodName) ({ cls := "PumpCrossing", name := "law", desc := "(I)I" } : Jvm.MethodName)) ∈ lw_all := lw_g (lw_at lw_m5 207 rfl) rfl
theorem q1264 : (Jvm.Cond.code ({ cls := "PumpCrossing", name := "law", desc := "(I)I" } : Jvm.MethodName) prog_1_method_17_code (4 : Nat) (Option.some Jvm.ClassFile.FieldType.int)) ∈ lw_all := lw_g (lw_at lw_m5 208 rfl) rfl
theorem q1265 : (Jvm.Cond.classLink "PumpCrossing" (223 : Nat) "PumpCrossing$LawReader") ∈ lw_all := lw_g (lw_at lw_m5 209 rfl) rfl
theorem q1267 : (Jvm.Cond.methodLink "PumpCrossing" (225 : Nat) ({ cls := "PumpCrossing$LawReader", name := "<init>", desc := "([BI)V" } : Jvm.MethodName)) ∈ lw_all := lw_g (lw_at lw_m5 211 rfl) rfl
theorem q1274 : (Jvm.Cond.fieldLinkNest "PumpCrossing" (226 : Nat) "PumpCrossing$LawReader" "made" "LPumpCrossing$Law;" "PumpCrossing") ∈ lw_tbl := lw_at lw_m5 218 rfl
theorem q1288 : (Jvm.Cond.instanceMethod ({ cls := "PumpCrossing", name := "run", desc := "(I)I" } : Jvm.MethodName)) ∈ lw_all := lw_g (lw_at lw_m5 232 rfl) rfl
theorem q1289 : (Jvm.Cond.selects "PumpCrossing" ({ cls := "PumpCrossing", name := "run", desc := "(I)I" } : Jvm.MethodName) ({ cls := "PumpCrossing", name := "run", desc := "(I)I" } : Jvm.MethodName)) ∈ lw_all := lw_g (lw_at lw_m5 233 rfl) rfl
theorem q1290 : (Jvm.Cond.code ({ cls := "PumpCrossing", name := "run", desc := "(I)I" } : Jvm.MethodName) prog_1_method_23_code (4 : Nat) (Option.some Jvm.ClassFile.FieldType.int)) ∈ lw_all := lw_g (lw_at lw_m5 234 rfl) rfl
theorem q1291 : (Jvm.Cond.constantLong "PumpCrossing" (323 : Nat) (300 : Int64)) ∈ lw_all := lw_g (lw_at lw_m5 235 rfl) rfl
theorem q1292 : (Jvm.Cond.methodLink "PumpCrossing" (325 : Nat) ({ cls := "PumpCrossing", name := "hour", desc := "()V" } : Jvm.MethodName)) ∈ lw_all := lw_g (lw_at lw_m5 236 rfl) rfl
theorem q1293 : (Jvm.Cond.privateMethod ({ cls := "PumpCrossing", name := "hour", desc := "()V" } : Jvm.MethodName)) ∈ lw_tbl := lw_at lw_m5 237 rfl
theorem q1294 : (Jvm.Cond.instanceMethod ({ cls := "PumpCrossing", name := "hour", desc := "()V" } : Jvm.MethodName)) ∈ lw_all := lw_g (lw_at lw_m5 238 rfl) rfl
theorem q1295 : (Jvm.Cond.code ({ cls := "PumpCrossing", name := "hour", desc := "()V" } : Jvm.MethodName) prog_1_method_22_code (6 : Nat) (Option.none : Option Jvm.ClassFile.FieldType)) ∈ lw_all := lw_g (lw_at lw_m5 239 rfl) rfl
theorem q1296 : (Jvm.Cond.methodLink "PumpCrossing" (295 : Nat) ({ cls := "PumpCrossing", name := "sets", desc := "(LPumpCrossing$Past;II)I" } : Jvm.MethodName)) ∈ lw_all := lw_g (lw_at lw_m6 0 rfl) rfl
theorem q1297 : (Jvm.Cond.privateMethod ({ cls := "PumpCrossing", name := "sets", desc := "(LPumpCrossing$Past;II)I" } : Jvm.MethodName)) ∈ lw_tbl := lw_at lw_m6 1 rfl
theorem q1298 : (Jvm.Cond.instanceMethod ({ cls := "PumpCrossing", name := "sets", desc := "(LPumpCrossing$Past;II)I" } : Jvm.MethodName)) ∈ lw_all := lw_g (lw_at lw_m6 2 rfl) rfl
theorem q1299 : (Jvm.Cond.code ({ cls := "PumpCrossing", name := "sets", desc := "(LPumpCrossing$Past;II)I" } : Jvm.MethodName) prog_1_method_20_code (8 : Nat) (Option.some Jvm.ClassFile.FieldType.int)) ∈ lw_all := lw_g (lw_at lw_m6 3 rfl) rfl
theorem q1300 : (Jvm.Cond.methodLink "PumpCrossing" (249 : Nat) ({ cls := "PumpCrossing", name := "looks", desc := "(LPumpCrossing$Past;II)V" } : Jvm.MethodName)) ∈ lw_all := lw_g (lw_at lw_m6 4 rfl) rfl
theorem q1301 : (Jvm.Cond.privateMethod ({ cls := "PumpCrossing", name := "looks", desc := "(LPumpCrossing$Past;II)V" } : Jvm.MethodName)) ∈ lw_tbl := lw_at lw_m6 5 rfl
theorem q1302 : (Jvm.Cond.instanceMethod ({ cls := "PumpCrossing", name := "looks", desc := "(LPumpCrossing$Past;II)V" } : Jvm.MethodName)) ∈ lw_all := lw_g (lw_at lw_m6 6 rfl) rfl
theorem q1303 : (Jvm.Cond.code ({ cls := "PumpCrossing", name := "looks", desc := "(LPumpCrossing$Past;II)V" } : Jvm.MethodName) prog_1_method_19_code (13 : Nat) (Option.none : Option Jvm.ClassFile.FieldType)) ∈ lw_all := lw_g (lw_at lw_m6 7 rfl) rfl
theorem q1304 : (Jvm.Cond.interfaceEntry "PumpCrossing" (232 : Nat)) ∈ lw_tbl := lw_at lw_m6 8 rfl
theorem q1305 : (Jvm.Cond.methodLink "PumpCrossing" (232 : Nat) ({ cls := "PumpCrossing$Past", name := "at", desc := "(II)I" } : Jvm.MethodName)) ∈ lw_all := lw_g (lw_at lw_m6 9 rfl) rfl
theorem q1326 : (Jvm.Cond.methodLink "PumpCrossing" (243 : Nat) ({ cls := "java/lang/Math", name := "max", desc := "(II)I" } : Jvm.MethodName)) ∈ lw_all := lw_g (lw_at lw_m6 30 rfl) rfl
theorem q1327 : (Jvm.Cond.interfaceEntry "PumpCrossing" (246 : Nat)) ∈ lw_tbl := lw_at lw_m6 31 rfl
theorem q1328 : (Jvm.Cond.methodLink "PumpCrossing" (246 : Nat) ({ cls := "PumpCrossing$Past", name := "since", desc := "(II)I" } : Jvm.MethodName)) ∈ lw_all := lw_g (lw_at lw_m6 32 rfl) rfl
theorem q1344 : (Jvm.Cond.classLink "PumpCrossing" (253 : Nat) "PumpCrossing$Rule") ∈ lw_all := lw_g (lw_at lw_m6 48 rfl) rfl
theorem q1345 : (Jvm.Cond.methodLink "PumpCrossing" (255 : Nat) ({ cls := "PumpCrossing$Rule", name := "holds", desc := "([I)Z" } : Jvm.MethodName)) ∈ lw_all := lw_g (lw_at lw_m6 49 rfl) rfl
theorem q1384 : (Jvm.Cond.methodLink "PumpCrossing" (263 : Nat) ({ cls := "PumpCrossing$Move", name := "to", desc := "([I)I" } : Jvm.MethodName)) ∈ lw_all := lw_g (lw_at lw_m6 88 rfl) rfl
theorem q1402 : (Jvm.Cond.methodLink "PumpCrossing" (269 : Nat) ({ cls := "PumpCrossing$Law", name := "bounded", desc := "(III)I" } : Jvm.MethodName)) ∈ lw_all := lw_g (lw_at lw_m6 106 rfl) rfl
theorem q1408 : (Jvm.Cond.methodLink "PumpCrossing" (275 : Nat) ({ cls := "PumpCrossing$Law", name := "lets", desc := "(II)Z" } : Jvm.MethodName)) ∈ lw_all := lw_g (lw_at lw_m6 112 rfl) rfl
theorem q1413 : (Jvm.Cond.static ({ cls := "PumpCrossing", name := "has", desc := "(II)Z" } : Jvm.MethodName)) ∈ lw_all := lw_g (lw_at lw_m6 117 rfl) rfl
theorem q1414 : (Jvm.Cond.code ({ cls := "PumpCrossing", name := "has", desc := "(II)Z" } : Jvm.MethodName) prog_1_method_2_code (2 : Nat) (Option.some Jvm.ClassFile.FieldType.boolean)) ∈ lw_all := lw_g (lw_at lw_m6 118 rfl) rfl
theorem q1415 : (Jvm.Cond.methodLink "PumpCrossing" (308 : Nat) ({ cls := "PumpCrossing", name := "goesTo", desc := "(LPumpCrossing$Driver;[I)I" } : Jvm.MethodName)) ∈ lw_all := lw_g (lw_at lw_m6 119 rfl) rfl
theorem q1416 : (Jvm.Cond.privateMethod ({ cls := "PumpCrossing", name := "goesTo", desc := "(LPumpCrossing$Driver;[I)I" } : Jvm.MethodName)) ∈ lw_tbl := lw_at lw_m6 120 rfl
theorem q1417 : (Jvm.Cond.instanceMethod ({ cls := "PumpCrossing", name := "goesTo", desc := "(LPumpCrossing$Driver;[I)I" } : Jvm.MethodName)) ∈ lw_all := lw_g (lw_at lw_m6 121 rfl) rfl
theorem q1418 : (Jvm.Cond.code ({ cls := "PumpCrossing", name := "goesTo", desc := "(LPumpCrossing$Driver;[I)I" } : Jvm.MethodName) prog_1_method_21_code (6 : Nat) (Option.some Jvm.ClassFile.FieldType.int)) ∈ lw_all := lw_g (lw_at lw_m6 122 rfl) rfl
theorem q1419 : (Jvm.Cond.methodLink "PumpCrossing" (289 : Nat) ({ cls := "PumpCrossing", name := "has", desc := "(II)Z" } : Jvm.MethodName)) ∈ lw_all := lw_g (lw_at lw_m6 123 rfl) rfl
theorem q1424 : (Jvm.Cond.instanceMethod ({ cls := "PumpCrossing", name := "price", desc := "(I)I" } : Jvm.MethodName)) ∈ lw_all := lw_g (lw_at lw_m6 128 rfl) rfl
theorem q1425 : (Jvm.Cond.selects "PumpCrossing" ({ cls := "PumpCrossing", name := "price", desc := "(I)I" } : Jvm.MethodName) ({ cls := "PumpCrossing", name := "price", desc := "(I)I" } : Jvm.MethodName)) ∈ lw_all := lw_g (lw_at lw_m6 129 rfl) rfl
theorem q1426 : (Jvm.Cond.code ({ cls := "PumpCrossing", name := "price", desc := "(I)I" } : Jvm.MethodName) prog_1_method_24_code (2 : Nat) (Option.some Jvm.ClassFile.FieldType.int)) ∈ lw_all := lw_g (lw_at lw_m6 130 rfl) rfl
theorem q1431 : (Jvm.Cond.instanceMethod ({ cls := "PumpCrossing", name := "board", desc := "(II)I" } : Jvm.MethodName)) ∈ lw_all := lw_g (lw_at lw_m6 135 rfl) rfl
theorem q1432 : (Jvm.Cond.selects "PumpCrossing" ({ cls := "PumpCrossing", name := "board", desc := "(II)I" } : Jvm.MethodName) ({ cls := "PumpCrossing", name := "board", desc := "(II)I" } : Jvm.MethodName)) ∈ lw_all := lw_g (lw_at lw_m6 136 rfl) rfl
theorem q1433 : (Jvm.Cond.code ({ cls := "PumpCrossing", name := "board", desc := "(II)I" } : Jvm.MethodName) prog_1_method_25_code (3 : Nat) (Option.some Jvm.ClassFile.FieldType.int)) ∈ lw_all := lw_g (lw_at lw_m6 137 rfl) rfl
theorem q1438 : (Jvm.Cond.instanceMethod ({ cls := "PumpCrossing", name := "would", desc := "(I)I" } : Jvm.MethodName)) ∈ lw_all := lw_g (lw_at lw_m6 142 rfl) rfl
theorem q1439 : (Jvm.Cond.selects "PumpCrossing" ({ cls := "PumpCrossing", name := "would", desc := "(I)I" } : Jvm.MethodName) ({ cls := "PumpCrossing", name := "would", desc := "(I)I" } : Jvm.MethodName)) ∈ lw_all := lw_g (lw_at lw_m6 143 rfl) rfl
theorem q1440 : (Jvm.Cond.code ({ cls := "PumpCrossing", name := "would", desc := "(I)I" } : Jvm.MethodName) prog_1_method_26_code (2 : Nat) (Option.some Jvm.ClassFile.FieldType.int)) ∈ lw_all := lw_g (lw_at lw_m6 144 rfl) rfl
theorem q1445 : (Jvm.Cond.instanceMethod ({ cls := "PumpCrossing", name := "of", desc := "(II)J" } : Jvm.MethodName)) ∈ lw_all := lw_g (lw_at lw_m6 149 rfl) rfl
theorem q1446 : (Jvm.Cond.selects "PumpCrossing" ({ cls := "PumpCrossing", name := "of", desc := "(II)J" } : Jvm.MethodName) ({ cls := "PumpCrossing", name := "of", desc := "(II)J" } : Jvm.MethodName)) ∈ lw_all := lw_g (lw_at lw_m6 150 rfl) rfl
theorem q1447 : (Jvm.Cond.code ({ cls := "PumpCrossing", name := "of", desc := "(II)J" } : Jvm.MethodName) prog_1_method_27_code (4 : Nat) (Option.some Jvm.ClassFile.FieldType.long)) ∈ lw_all := lw_g (lw_at lw_m6 151 rfl) rfl
theorem q1448 : (Jvm.Cond.constantLong "PumpCrossing" (333 : Nat) (2 : Int64)) ∈ lw_all := lw_g (lw_at lw_m6 152 rfl) rfl
theorem q1449 : (Jvm.Cond.methodLink "PumpCrossing" (335 : Nat) ({ cls := "PumpCrossing$Run", name := "since", desc := "(II)I" } : Jvm.MethodName)) ∈ lw_all := lw_g (lw_at lw_m6 153 rfl) rfl
theorem q1454 : (Jvm.Cond.instanceMethod ({ cls := "PumpCrossing", name := "fills", desc := "(I)I" } : Jvm.MethodName)) ∈ lw_all := lw_g (lw_at lw_m6 158 rfl) rfl
theorem q1455 : (Jvm.Cond.selects "PumpCrossing" ({ cls := "PumpCrossing", name := "fills", desc := "(I)I" } : Jvm.MethodName) ({ cls := "PumpCrossing", name := "fills", desc := "(I)I" } : Jvm.MethodName)) ∈ lw_all := lw_g (lw_at lw_m6 159 rfl) rfl
theorem q1456 : (Jvm.Cond.code ({ cls := "PumpCrossing", name := "fills", desc := "(I)I" } : Jvm.MethodName) prog_1_method_29_code (2 : Nat) (Option.some Jvm.ClassFile.FieldType.int)) ∈ lw_all := lw_g (lw_at lw_m6 160 rfl) rfl
theorem q1457 : (Jvm.Cond.methodLink "PumpCrossing" (336 : Nat) ({ cls := "PumpCrossing", name := "asNow", desc := "()V" } : Jvm.MethodName)) ∈ lw_all := lw_g (lw_at lw_m6 161 rfl) rfl
theorem q1458 : (Jvm.Cond.privateMethod ({ cls := "PumpCrossing", name := "asNow", desc := "()V" } : Jvm.MethodName)) ∈ lw_tbl := lw_at lw_m6 162 rfl
theorem q1459 : (Jvm.Cond.instanceMethod ({ cls := "PumpCrossing", name := "asNow", desc := "()V" } : Jvm.MethodName)) ∈ lw_all := lw_g (lw_at lw_m6 163 rfl) rfl
theorem q1460 : (Jvm.Cond.code ({ cls := "PumpCrossing", name := "asNow", desc := "()V" } : Jvm.MethodName) prog_1_method_28_code (2 : Nat) (Option.none : Option Jvm.ClassFile.FieldType)) ∈ lw_all := lw_g (lw_at lw_m6 164 rfl) rfl
theorem q1465 : (Jvm.Cond.instanceMethod ({ cls := "PumpCrossing", name := "leads", desc := "(IZ)I" } : Jvm.MethodName)) ∈ lw_all := lw_g (lw_at lw_m6 169 rfl) rfl
theorem q1466 : (Jvm.Cond.selects "PumpCrossing" ({ cls := "PumpCrossing", name := "leads", desc := "(IZ)I" } : Jvm.MethodName) ({ cls := "PumpCrossing", name := "leads", desc := "(IZ)I" } : Jvm.MethodName)) ∈ lw_all := lw_g (lw_at lw_m6 170 rfl) rfl
theorem q1467 : (Jvm.Cond.code ({ cls := "PumpCrossing", name := "leads", desc := "(IZ)I" } : Jvm.MethodName) prog_1_method_35_code (5 : Nat) (Option.some Jvm.ClassFile.FieldType.int)) ∈ lw_all := lw_g (lw_at lw_m6 171 rfl) rfl
theorem q1468 : (Jvm.Cond.methodLink "PumpCrossing" (345 : Nat) ({ cls := "PumpCrossing", name := "isLead", desc := "(II)Z" } : Jvm.MethodName)) ∈ lw_all := lw_g (lw_at lw_m6 172 rfl) rfl
theorem q1469 : (Jvm.Cond.privateMethod ({ cls := "PumpCrossing", name := "isLead", desc := "(II)Z" } : Jvm.MethodName)) ∈ lw_tbl := lw_at lw_m6 173 rfl
theorem q1470 : (Jvm.Cond.instanceMethod ({ cls := "PumpCrossing", name := "isLead", desc := "(II)Z" } : Jvm.MethodName)) ∈ lw_all := lw_g (lw_at lw_m6 174 rfl) rfl
theorem q1471 : (Jvm.Cond.code ({ cls := "PumpCrossing", name := "isLead", desc := "(II)Z" } : Jvm.MethodName) prog_1_method_33_code (4 : Nat) (Option.some Jvm.ClassFile.FieldType.boolean)) ∈ lw_all := lw_g (lw_at lw_m6 175 rfl) rfl
theorem q1472 : (Jvm.Cond.methodLink "PumpCrossing" (342 : Nat) ({ cls := "PumpCrossing", name := "goesUp", desc := "(II)Z" } : Jvm.MethodName)) ∈ lw_all := lw_g (lw_at lw_m6 176 rfl) rfl
theorem q1473 : (Jvm.Cond.privateMethod ({ cls := "PumpCrossing", name := "goesUp", desc := "(II)Z" } : Jvm.MethodName)) ∈ lw_tbl := lw_at lw_m6 177 rfl
theorem q1474 : (Jvm.Cond.instanceMethod ({ cls := "PumpCrossing", name := "goesUp", desc := "(II)Z" } : Jvm.MethodName)) ∈ lw_all := lw_g (lw_at lw_m6 178 rfl) rfl
theorem q1475 : (Jvm.Cond.code ({ cls := "PumpCrossing", name := "goesUp", desc := "(II)Z" } : Jvm.MethodName) prog_1_method_32_code (3 : Nat) (Option.some Jvm.ClassFile.FieldType.boolean)) ∈ lw_all := lw_g (lw_at lw_m6 179 rfl) rfl
theorem q1476 : (Jvm.Cond.methodLink "PumpCrossing" (348 : Nat) ({ cls := "PumpCrossing", name := "isFollowed", desc := "(II)Z" } : Jvm.MethodName)) ∈ lw_all := lw_g (lw_at lw_m6 180 rfl) rfl
theorem q1477 : (Jvm.Cond.privateMethod ({ cls := "PumpCrossing", name := "isFollowed", desc := "(II)Z" } : Jvm.MethodName)) ∈ lw_tbl := lw_at lw_m6 181 rfl
theorem q1478 : (Jvm.Cond.instanceMethod ({ cls := "PumpCrossing", name := "isFollowed", desc := "(II)Z" } : Jvm.MethodName)) ∈ lw_all := lw_g (lw_at lw_m6 182 rfl) rfl
theorem q1479 : (Jvm.Cond.code ({ cls := "PumpCrossing", name := "isFollowed", desc := "(II)Z" } : Jvm.MethodName) prog_1_method_34_code (6 : Nat) (Option.some Jvm.ClassFile.FieldType.boolean)) ∈ lw_all := lw_g (lw_at lw_m6 183 rfl) rfl
theorem q1484 : (Jvm.Cond.instanceMethod ({ cls := "PumpCrossing", name := "passed", desc := "(IIZ)Z" } : Jvm.MethodName)) ∈ lw_all := lw_g (lw_at lw_m6 188 rfl) rfl
theorem q1485 : (Jvm.Cond.selects "PumpCrossing" ({ cls := "PumpCrossing", name := "passed", desc := "(IIZ)Z" } : Jvm.MethodName) ({ cls := "PumpCrossing", name := "passed", desc := "(IIZ)Z" } : Jvm.MethodName)) ∈ lw_all := lw_g (lw_at lw_m6 189 rfl) rfl
theorem q1486 : (Jvm.Cond.code ({ cls := "PumpCrossing", name := "passed", desc := "(IIZ)Z" } : Jvm.MethodName) prog_1_method_40_code (12 : Nat) (Option.some Jvm.ClassFile.FieldType.boolean)) ∈ lw_all := lw_g (lw_at lw_m6 190 rfl) rfl
theorem q1487 : (Jvm.Cond.constantLong "PumpCrossing" (361 : Nat) (24 : Int64)) ∈ lw_all := lw_g (lw_at lw_m6 191 rfl) rfl
theorem q1488 : (Jvm.Cond.methodLink "PumpCrossing" (371 : Nat) ({ cls := "java/lang/Math", name := "abs", desc := "(I)I" } : Jvm.MethodName)) ∈ lw_all := lw_g (lw_at lw_m6 192 rfl) rfl
theorem q1495 : (Jvm.Cond.instanceMethod ({ cls := "PumpCrossing", name := "level", desc := "(I)I" } : Jvm.MethodName)) ∈ lw_all := lw_g (lw_at lw_m6 199 rfl) rfl
theorem q1496 : (Jvm.Cond.selects "PumpCrossing" ({ cls := "PumpCrossing", name := "level", desc := "(I)I" } : Jvm.MethodName) ({ cls := "PumpCrossing", name := "level", desc := "(I)I" } : Jvm.MethodName)) ∈ lw_all := lw_g (lw_at lw_m6 200 rfl) rfl
theorem q1497 : (Jvm.Cond.code ({ cls := "PumpCrossing", name := "level", desc := "(I)I" } : Jvm.MethodName) prog_1_method_41_code (2 : Nat) (Option.some Jvm.ClassFile.FieldType.int)) ∈ lw_all := lw_g (lw_at lw_m6 201 rfl) rfl
theorem q1534 : (Jvm.Cond.instanceMethod ({ cls := "PumpCrossing", name := "gain", desc := "(IIIIZ)I" } : Jvm.MethodName)) ∈ lw_all := lw_g (lw_at lw_m6 238 rfl) rfl
theorem q1535 : (Jvm.Cond.selects "PumpCrossing" ({ cls := "PumpCrossing", name := "gain", desc := "(IIIIZ)I" } : Jvm.MethodName) ({ cls := "PumpCrossing", name := "gain", desc := "(IIIIZ)I" } : Jvm.MethodName)) ∈ lw_all := lw_g (lw_at lw_m6 239 rfl) rfl
theorem q1536 : (Jvm.Cond.code ({ cls := "PumpCrossing", name := "gain", desc := "(IIIIZ)I" } : Jvm.MethodName) prog_1_method_45_code (6 : Nat) (Option.some Jvm.ClassFile.FieldType.int)) ∈ lw_all := lw_g (lw_at lw_m7 0 rfl) rfl
theorem q1537 : (Jvm.Cond.methodLink "PumpCrossing" (388 : Nat) ({ cls := "PumpCrossing", name := "mustBeTwo", desc := "(II)V" } : Jvm.MethodName)) ∈ lw_all := lw_g (lw_at lw_m7 1 rfl) rfl
theorem q1538 : (Jvm.Cond.privateMethod ({ cls := "PumpCrossing", name := "mustBeTwo", desc := "(II)V" } : Jvm.MethodName)) ∈ lw_tbl := lw_at lw_m7 2 rfl
theorem q1539 : (Jvm.Cond.instanceMethod ({ cls := "PumpCrossing", name := "mustBeTwo", desc := "(II)V" } : Jvm.MethodName)) ∈ lw_all := lw_g (lw_at lw_m7 3 rfl) rfl
theorem q1540 : (Jvm.Cond.code ({ cls := "PumpCrossing", name := "mustBeTwo", desc := "(II)V" } : Jvm.MethodName) prog_1_method_42_code (3 : Nat) (Option.none : Option Jvm.ClassFile.FieldType)) ∈ lw_all := lw_g (lw_at lw_m7 4 rfl) rfl
theorem q1541 : (Jvm.Cond.methodLink "PumpCrossing" (392 : Nat) ({ cls := "PumpCrossing", name := "mustBeLevel", desc := "(I)V" } : Jvm.MethodName)) ∈ lw_all := lw_g (lw_at lw_m7 5 rfl) rfl
theorem q1542 : (Jvm.Cond.privateMethod ({ cls := "PumpCrossing", name := "mustBeLevel", desc := "(I)V" } : Jvm.MethodName)) ∈ lw_tbl := lw_at lw_m7 6 rfl
theorem q1543 : (Jvm.Cond.instanceMethod ({ cls := "PumpCrossing", name := "mustBeLevel", desc := "(I)V" } : Jvm.MethodName)) ∈ lw_all := lw_g (lw_at lw_m7 7 rfl) rfl
theorem q1544 : (Jvm.Cond.code ({ cls := "PumpCrossing", name := "mustBeLevel", desc := "(I)V" } : Jvm.MethodName) prog_1_method_43_code (2 : Nat) (Option.none : Option Jvm.ClassFile.FieldType)) ∈ lw_all := lw_g (lw_at lw_m7 8 rfl) rfl
theorem q1545 : (Jvm.Cond.methodLink "PumpCrossing" (385 : Nat) ({ cls := "PumpCrossing", name := "within", desc := "(Z)V" } : Jvm.MethodName)) ∈ lw_all := lw_g (lw_at lw_m7 9 rfl) rfl
theorem q1546 : (Jvm.Cond.static ({ cls := "PumpCrossing", name := "within", desc := "(Z)V" } : Jvm.MethodName)) ∈ lw_all := lw_g (lw_at lw_m7 10 rfl) rfl
theorem q1547 : (Jvm.Cond.code ({ cls := "PumpCrossing", name := "within", desc := "(Z)V" } : Jvm.MethodName) prog_1_method_6_code (1 : Nat) (Option.none : Option Jvm.ClassFile.FieldType)) ∈ lw_all := lw_g (lw_at lw_m7 11 rfl) rfl
theorem q1548 : (Jvm.Cond.classLink "PumpCrossing" (13 : Nat) "java/lang/IndexOutOfBoundsException") ∈ lw_all := lw_g (lw_at lw_m7 12 rfl) rfl
theorem q1557 : (Jvm.Cond.methodLink "PumpCrossing" (15 : Nat) ({ cls := "java/lang/IndexOutOfBoundsException", name := "<init>", desc := "()V" } : Jvm.MethodName)) ∈ lw_all := lw_g (lw_at lw_m7 21 rfl) rfl
theorem q1563 : (Jvm.Cond.methodLink "PumpCrossing" (395 : Nat) ({ cls := "PumpCrossing", name := "laysGame", desc := "(II)V" } : Jvm.MethodName)) ∈ lw_all := lw_g (lw_at lw_m7 27 rfl) rfl
theorem q1564 : (Jvm.Cond.privateMethod ({ cls := "PumpCrossing", name := "laysGame", desc := "(II)V" } : Jvm.MethodName)) ∈ lw_tbl := lw_at lw_m7 28 rfl
theorem q1565 : (Jvm.Cond.instanceMethod ({ cls := "PumpCrossing", name := "laysGame", desc := "(II)V" } : Jvm.MethodName)) ∈ lw_all := lw_g (lw_at lw_m7 29 rfl) rfl
theorem q1566 : (Jvm.Cond.code ({ cls := "PumpCrossing", name := "laysGame", desc := "(II)V" } : Jvm.MethodName) prog_1_method_44_code (9 : Nat) (Option.none : Option Jvm.ClassFile.FieldType)) ∈ lw_all := lw_g (lw_at lw_m7 30 rfl) rfl
theorem q1571 : (Jvm.Cond.instanceMethod ({ cls := "PumpCrossing", name := "reply", desc := "(III)I" } : Jvm.MethodName)) ∈ lw_all := lw_g (lw_at lw_m7 35 rfl) rfl
theorem q1572 : (Jvm.Cond.selects "PumpCrossing" ({ cls := "PumpCrossing", name := "reply", desc := "(III)I" } : Jvm.MethodName) ({ cls := "PumpCrossing", name := "reply", desc := "(III)I" } : Jvm.MethodName)) ∈ lw_all := lw_g (lw_at lw_m7 36 rfl) rfl
theorem q1573 : (Jvm.Cond.code ({ cls := "PumpCrossing", name := "reply", desc := "(III)I" } : Jvm.MethodName) prog_1_method_47_code (4 : Nat) (Option.some Jvm.ClassFile.FieldType.int)) ∈ lw_all := lw_g (lw_at lw_m7 37 rfl) rfl
theorem q1574 : (Jvm.Cond.methodLink "PumpCrossing" (398 : Nat) ({ cls := "PumpCrossing", name := "replyOf", desc := "(I)I" } : Jvm.MethodName)) ∈ lw_all := lw_g (lw_at lw_m7 38 rfl) rfl
theorem q1575 : (Jvm.Cond.privateMethod ({ cls := "PumpCrossing", name := "replyOf", desc := "(I)I" } : Jvm.MethodName)) ∈ lw_tbl := lw_at lw_m7 39 rfl
theorem q1576 : (Jvm.Cond.instanceMethod ({ cls := "PumpCrossing", name := "replyOf", desc := "(I)I" } : Jvm.MethodName)) ∈ lw_all := lw_g (lw_at lw_m7 40 rfl) rfl
theorem q1577 : (Jvm.Cond.code ({ cls := "PumpCrossing", name := "replyOf", desc := "(I)I" } : Jvm.MethodName) prog_1_method_46_code (4 : Nat) (Option.some Jvm.ClassFile.FieldType.int)) ∈ lw_all := lw_g (lw_at lw_m7 41 rfl) rfl
theorem q1582 : (Jvm.Cond.instanceMethod ({ cls := "PumpCrossing", name := "even", desc := "(III)I" } : Jvm.MethodName)) ∈ lw_all := lw_g (lw_at lw_m7 46 rfl) rfl
theorem q1583 : (Jvm.Cond.selects "PumpCrossing" ({ cls := "PumpCrossing", name := "even", desc := "(III)I" } : Jvm.MethodName) ({ cls := "PumpCrossing", name := "even", desc := "(III)I" } : Jvm.MethodName)) ∈ lw_all := lw_g (lw_at lw_m7 47 rfl) rfl
theorem q1584 : (Jvm.Cond.code ({ cls := "PumpCrossing", name := "even", desc := "(III)I" } : Jvm.MethodName) prog_1_method_50_code (4 : Nat) (Option.some Jvm.ClassFile.FieldType.int)) ∈ lw_all := lw_g (lw_at lw_m7 48 rfl) rfl
theorem q1585 : (Jvm.Cond.methodLink "PumpCrossing" (404 : Nat) ({ cls := "PumpCrossing", name := "evenAt", desc := "(I)I" } : Jvm.MethodName)) ∈ lw_all := lw_g (lw_at lw_m7 49 rfl) rfl
theorem q1586 : (Jvm.Cond.privateMethod ({ cls := "PumpCrossing", name := "evenAt", desc := "(I)I" } : Jvm.MethodName)) ∈ lw_tbl := lw_at lw_m7 50 rfl
theorem q1587 : (Jvm.Cond.instanceMethod ({ cls := "PumpCrossing", name := "evenAt", desc := "(I)I" } : Jvm.MethodName)) ∈ lw_all := lw_g (lw_at lw_m7 51 rfl) rfl
theorem q1588 : (Jvm.Cond.code ({ cls := "PumpCrossing", name := "evenAt", desc := "(I)I" } : Jvm.MethodName) prog_1_method_49_code (5 : Nat) (Option.some Jvm.ClassFile.FieldType.int)) ∈ lw_all := lw_g (lw_at lw_m7 52 rfl) rfl
theorem q1589 : (Jvm.Cond.methodLink "PumpCrossing" (401 : Nat) ({ cls := "PumpCrossing", name := "rests", desc := "(II)Z" } : Jvm.MethodName)) ∈ lw_all := lw_g (lw_at lw_m7 53 rfl) rfl
theorem q1590 : (Jvm.Cond.privateMethod ({ cls := "PumpCrossing", name := "rests", desc := "(II)Z" } : Jvm.MethodName)) ∈ lw_tbl := lw_at lw_m7 54 rfl
theorem q1591 : (Jvm.Cond.instanceMethod ({ cls := "PumpCrossing", name := "rests", desc := "(II)Z" } : Jvm.MethodName)) ∈ lw_all := lw_g (lw_at lw_m7 55 rfl) rfl
theorem q1592 : (Jvm.Cond.code ({ cls := "PumpCrossing", name := "rests", desc := "(II)Z" } : Jvm.MethodName) prog_1_method_48_code (4 : Nat) (Option.some Jvm.ClassFile.FieldType.boolean)) ∈ lw_all := lw_g (lw_at lw_m7 56 rfl) rfl
theorem q1597 : (Jvm.Cond.instanceMethod ({ cls := "PumpCrossing", name := "joint", desc := "(II)I" } : Jvm.MethodName)) ∈ lw_all := lw_g (lw_at lw_m7 61 rfl) rfl
theorem q1598 : (Jvm.Cond.selects "PumpCrossing" ({ cls := "PumpCrossing", name := "joint", desc := "(II)I" } : Jvm.MethodName) ({ cls := "PumpCrossing", name := "joint", desc := "(II)I" } : Jvm.MethodName)) ∈ lw_all := lw_g (lw_at lw_m7 62 rfl) rfl
theorem q1599 : (Jvm.Cond.code ({ cls := "PumpCrossing", name := "joint", desc := "(II)I" } : Jvm.MethodName) prog_1_method_52_code (6 : Nat) (Option.some Jvm.ClassFile.FieldType.int)) ∈ lw_all := lw_g (lw_at lw_m7 63 rfl) rfl
theorem q1600 : (Jvm.Cond.methodLink "PumpCrossing" (407 : Nat) ({ cls := "PumpCrossing", name := "both", desc := "(I)I" } : Jvm.MethodName)) ∈ lw_all := lw_g (lw_at lw_m7 64 rfl) rfl
theorem q1601 : (Jvm.Cond.privateMethod ({ cls := "PumpCrossing", name := "both", desc := "(I)I" } : Jvm.MethodName)) ∈ lw_tbl := lw_at lw_m7 65 rfl
theorem q1602 : (Jvm.Cond.instanceMethod ({ cls := "PumpCrossing", name := "both", desc := "(I)I" } : Jvm.MethodName)) ∈ lw_all := lw_g (lw_at lw_m7 66 rfl) rfl
theorem q1603 : (Jvm.Cond.code ({ cls := "PumpCrossing", name := "both", desc := "(I)I" } : Jvm.MethodName) prog_1_method_51_code (2 : Nat) (Option.some Jvm.ClassFile.FieldType.int)) ∈ lw_all := lw_g (lw_at lw_m7 67 rfl) rfl
theorem q1608 : (Jvm.Cond.instanceMethod ({ cls := "PumpCrossing", name := "turn", desc := "(IIIII)I" } : Jvm.MethodName)) ∈ lw_all := lw_g (lw_at lw_m7 72 rfl) rfl
theorem q1609 : (Jvm.Cond.selects "PumpCrossing" ({ cls := "PumpCrossing", name := "turn", desc := "(IIIII)I" } : Jvm.MethodName) ({ cls := "PumpCrossing", name := "turn", desc := "(IIIII)I" } : Jvm.MethodName)) ∈ lw_all := lw_g (lw_at lw_m7 73 rfl) rfl
theorem q1610 : (Jvm.Cond.code ({ cls := "PumpCrossing", name := "turn", desc := "(IIIII)I" } : Jvm.MethodName) prog_1_method_55_code (8 : Nat) (Option.some Jvm.ClassFile.FieldType.int)) ∈ lw_all := lw_g (lw_at lw_m7 74 rfl) rfl
theorem q1611 : (Jvm.Cond.methodLink "PumpCrossing" (415 : Nat) ({ cls := "PumpCrossing", name := "mustTurn", desc := "(IIII)V" } : Jvm.MethodName)) ∈ lw_all := lw_g (lw_at lw_m7 75 rfl) rfl
theorem q1612 : (Jvm.Cond.privateMethod ({ cls := "PumpCrossing", name := "mustTurn", desc := "(IIII)V" } : Jvm.MethodName)) ∈ lw_tbl := lw_at lw_m7 76 rfl
theorem q1613 : (Jvm.Cond.instanceMethod ({ cls := "PumpCrossing", name := "mustTurn", desc := "(IIII)V" } : Jvm.MethodName)) ∈ lw_all := lw_g (lw_at lw_m7 77 rfl) rfl
theorem q1614 : (Jvm.Cond.code ({ cls := "PumpCrossing", name := "mustTurn", desc := "(IIII)V" } : Jvm.MethodName) prog_1_method_54_code (5 : Nat) (Option.none : Option Jvm.ClassFile.FieldType)) ∈ lw_all := lw_g (lw_at lw_m7 78 rfl) rfl
theorem q1615 : (Jvm.Cond.constantLong "PumpCrossing" (410 : Nat) (40 : Int64)) ∈ lw_all := lw_g (lw_at lw_m7 79 rfl) rfl
theorem q1616 : (Jvm.Cond.methodLink "PumpCrossing" (412 : Nat) ({ cls := "PumpCrossing", name := "foresees", desc := "(I)V" } : Jvm.MethodName)) ∈ lw_all := lw_g (lw_at lw_m7 80 rfl) rfl
theorem q1617 : (Jvm.Cond.privateMethod ({ cls := "PumpCrossing", name := "foresees", desc := "(I)V" } : Jvm.MethodName)) ∈ lw_tbl := lw_at lw_m7 81 rfl
theorem q1618 : (Jvm.Cond.instanceMethod ({ cls := "PumpCrossing", name := "foresees", desc := "(I)V" } : Jvm.MethodName)) ∈ lw_all := lw_g (lw_at lw_m7 82 rfl) rfl
theorem q1619 : (Jvm.Cond.code ({ cls := "PumpCrossing", name := "foresees", desc := "(I)V" } : Jvm.MethodName) prog_1_method_53_code (9 : Nat) (Option.none : Option Jvm.ClassFile.FieldType)) ∈ lw_all := lw_g (lw_at lw_m7 83 rfl) rfl
theorem q1624 : (Jvm.Cond.instanceMethod ({ cls := "PumpCrossing", name := "gains", desc := "(IIIIZ)J" } : Jvm.MethodName)) ∈ lw_all := lw_g (lw_at lw_m7 88 rfl) rfl
theorem q1625 : (Jvm.Cond.selects "PumpCrossing" ({ cls := "PumpCrossing", name := "gains", desc := "(IIIIZ)J" } : Jvm.MethodName) ({ cls := "PumpCrossing", name := "gains", desc := "(IIIIZ)J" } : Jvm.MethodName)) ∈ lw_all := lw_g (lw_at lw_m7 89 rfl) rfl
theorem q1626 : (Jvm.Cond.code ({ cls := "PumpCrossing", name := "gains", desc := "(IIIIZ)J" } : Jvm.MethodName) prog_1_method_56_code (6 : Nat) (Option.some Jvm.ClassFile.FieldType.long)) ∈ lw_all := lw_g (lw_at lw_m7 90 rfl) rfl
theorem q1631 : (Jvm.Cond.instanceMethod ({ cls := "PumpCrossing", name := "learn", desc := "(IIII)I" } : Jvm.MethodName)) ∈ lw_all := lw_g (lw_at lw_m7 95 rfl) rfl
theorem q1632 : (Jvm.Cond.selects "PumpCrossing" ({ cls := "PumpCrossing", name := "learn", desc := "(IIII)I" } : Jvm.MethodName) ({ cls := "PumpCrossing", name := "learn", desc := "(IIII)I" } : Jvm.MethodName)) ∈ lw_all := lw_g (lw_at lw_m7 96 rfl) rfl
theorem q1633 : (Jvm.Cond.code ({ cls := "PumpCrossing", name := "learn", desc := "(IIII)I" } : Jvm.MethodName) prog_1_method_57_code (5 : Nat) (Option.some Jvm.ClassFile.FieldType.int)) ∈ lw_all := lw_g (lw_at lw_m7 97 rfl) rfl
theorem q1634 : (Jvm.Cond.constantLong "PumpCrossing" (418 : Nat) (2000 : Int64)) ∈ lw_all := lw_g (lw_at lw_m7 98 rfl) rfl
theorem q1635 : (Jvm.Cond.methodLink "PumpCrossing" (420 : Nat) ({ cls := "PumpCrossing$Learners", name := "goes", desc := "(II)I" } : Jvm.MethodName)) ∈ lw_all := lw_g (lw_at lw_m7 99 rfl) rfl
theorem q1660 : (Jvm.Cond.instanceMethod ({ cls := "PumpCrossing", name := "above", desc := "(IIII)I" } : Jvm.MethodName)) ∈ lw_all := lw_g (lw_at lw_m7 124 rfl) rfl
theorem q1661 : (Jvm.Cond.selects "PumpCrossing" ({ cls := "PumpCrossing", name := "above", desc := "(IIII)I" } : Jvm.MethodName) ({ cls := "PumpCrossing", name := "above", desc := "(IIII)I" } : Jvm.MethodName)) ∈ lw_all := lw_g (lw_at lw_m7 125 rfl) rfl
theorem q1662 : (Jvm.Cond.code ({ cls := "PumpCrossing", name := "above", desc := "(IIII)I" } : Jvm.MethodName) prog_1_method_58_code (8 : Nat) (Option.some Jvm.ClassFile.FieldType.int)) ∈ lw_all := lw_g (lw_at lw_m7 126 rfl) rfl
theorem q1667 : (Jvm.Cond.instanceMethod ({ cls := "PumpCrossing", name := "punish", desc := "(IIIII)I" } : Jvm.MethodName)) ∈ lw_all := lw_g (lw_at lw_m7 131 rfl) rfl
theorem q1668 : (Jvm.Cond.selects "PumpCrossing" ({ cls := "PumpCrossing", name := "punish", desc := "(IIIII)I" } : Jvm.MethodName) ({ cls := "PumpCrossing", name := "punish", desc := "(IIIII)I" } : Jvm.MethodName)) ∈ lw_all := lw_g (lw_at lw_m7 132 rfl) rfl
theorem q1669 : (Jvm.Cond.code ({ cls := "PumpCrossing", name := "punish", desc := "(IIIII)I" } : Jvm.MethodName) prog_1_method_59_code (6 : Nat) (Option.some Jvm.ClassFile.FieldType.int)) ∈ lw_all := lw_g (lw_at lw_m7 133 rfl) rfl
theorem q1670 : (Jvm.Cond.methodLinkNest "PumpCrossing" (426 : Nat) ({ cls := "PumpCrossing$Learners", name := "greatest", desc := "([I)I" } : Jvm.MethodName) "PumpCrossing") ∈ lw_tbl := lw_at lw_m7 134 rfl
theorem q1675 : (Jvm.Cond.instanceMethod ({ cls := "PumpCrossing", name := "story", desc := "(II)Z" } : Jvm.MethodName)) ∈ lw_all := lw_g (lw_at lw_m7 139 rfl) rfl
theorem q1676 : (Jvm.Cond.selects "PumpCrossing" ({ cls := "PumpCrossing", name := "story", desc := "(II)Z" } : Jvm.MethodName) ({ cls := "PumpCrossing", name := "story", desc := "(II)Z" } : Jvm.MethodName)) ∈ lw_all := lw_g (lw_at lw_m7 140 rfl) rfl
theorem q1677 : (Jvm.Cond.codeWith ({ cls := "PumpCrossing", name := "story", desc := "(II)Z" } : Jvm.MethodName) prog_1_method_63_code (5 : Nat) (Option.some Jvm.ClassFile.FieldType.boolean) [((16 : Nat), (35 : Nat), (73 : Nat), (445 : Nat)), ((36 : Nat), (72 : Nat), (73 : Nat), (445 : Nat))]) ∈ lw_all := lw_g (lw_at lw_m7 141 rfl) rfl
theorem q1678 : (Jvm.Cond.classLink "PumpCrossing" (445 : Nat) "java/lang/NullPointerException") ∈ lw_all := lw_g (lw_at lw_m7 142 rfl) rfl
theorem q1697 : (Jvm.Cond.methodLink "PumpCrossing" (429 : Nat) ({ cls := "PumpCrossing", name := "trayOf", desc := "(I)LPumpCrossing$Tray;" } : Jvm.MethodName)) ∈ lw_all := lw_g (lw_at lw_m7 161 rfl) rfl
theorem q1698 : (Jvm.Cond.privateMethod ({ cls := "PumpCrossing", name := "trayOf", desc := "(I)LPumpCrossing$Tray;" } : Jvm.MethodName)) ∈ lw_tbl := lw_at lw_m7 162 rfl
theorem q1699 : (Jvm.Cond.instanceMethod ({ cls := "PumpCrossing", name := "trayOf", desc := "(I)LPumpCrossing$Tray;" } : Jvm.MethodName)) ∈ lw_all := lw_g (lw_at lw_m7 163 rfl) rfl
theorem q1700 : (Jvm.Cond.code ({ cls := "PumpCrossing", name := "trayOf", desc := "(I)LPumpCrossing$Tray;" } : Jvm.MethodName) prog_1_method_60_code (2 : Nat) (Option.some (Jvm.ClassFile.FieldType.object "PumpCrossing$Tray"))) ∈ lw_all := lw_g (lw_at lw_m7 164 rfl) rfl
theorem q1701 : (Jvm.Cond.methodLink "PumpCrossing" (449 : Nat) ({ cls := "PumpCrossing$Tray", name := "size", desc := "()I" } : Jvm.MethodName)) ∈ lw_all := lw_g (lw_at lw_m7 165 rfl) rfl
theorem q1709 : (Jvm.Cond.methodLink "PumpCrossing" (450 : Nat) ({ cls := "PumpCrossing$Tray", name := "isWithin", desc := "(I)Z" } : Jvm.MethodName)) ∈ lw_all := lw_g (lw_at lw_m7 173 rfl) rfl
theorem q1719 : (Jvm.Cond.methodLink "PumpCrossing" (442 : Nat) ({ cls := "PumpCrossing$Tray", name := "at", desc := "(I)J" } : Jvm.MethodName)) ∈ lw_all := lw_g (lw_at lw_m7 183 rfl) rfl
theorem q1724 : (Jvm.Cond.instanceMethod ({ cls := "PumpCrossing", name := "rise", desc := "(III)I" } : Jvm.MethodName)) ∈ lw_all := lw_g (lw_at lw_m7 188 rfl) rfl
theorem q1725 : (Jvm.Cond.selects "PumpCrossing" ({ cls := "PumpCrossing", name := "rise", desc := "(III)I" } : Jvm.MethodName) ({ cls := "PumpCrossing", name := "rise", desc := "(III)I" } : Jvm.MethodName)) ∈ lw_all := lw_g (lw_at lw_m7 189 rfl) rfl
theorem q1726 : (Jvm.Cond.code ({ cls := "PumpCrossing", name := "rise", desc := "(III)I" } : Jvm.MethodName) prog_1_method_64_code (7 : Nat) (Option.some Jvm.ClassFile.FieldType.int)) ∈ lw_all := lw_g (lw_at lw_m7 190 rfl) rfl
theorem q1727 : (Jvm.Cond.methodLink "PumpCrossing" (459 : Nat) ({ cls := "java/lang/System", name := "arraycopy", desc := "(Ljava/lang/Object;ILjava/lang/Object;II)V" } : Jvm.MethodName)) ∈ lw_all := lw_g (lw_at lw_m7 191 rfl) rfl
theorem q1732 : (Jvm.Cond.instanceMethod ({ cls := "PumpCrossing", name := "fill", desc := "(IIII)I" } : Jvm.MethodName)) ∈ lw_all := lw_g (lw_at lw_m7 196 rfl) rfl
theorem q1733 : (Jvm.Cond.selects "PumpCrossing" ({ cls := "PumpCrossing", name := "fill", desc := "(IIII)I" } : Jvm.MethodName) ({ cls := "PumpCrossing", name := "fill", desc := "(IIII)I" } : Jvm.MethodName)) ∈ lw_all := lw_g (lw_at lw_m7 197 rfl) rfl
theorem q1734 : (Jvm.Cond.codeWith ({ cls := "PumpCrossing", name := "fill", desc := "(IIII)I" } : Jvm.MethodName) prog_1_method_67_code (10 : Nat) (Option.some Jvm.ClassFile.FieldType.int) [((7 : Nat), (206 : Nat), (305 : Nat), (445 : Nat)), ((207 : Nat), (223 : Nat), (305 : Nat), (445 : Nat)), ((224 : Nat), (304 : Nat), (305 : Nat), (445 : Nat))]) ∈ lw_all := lw_g (lw_at lw_m7 198 rfl) rfl
theorem q1735 : (Jvm.Cond.constantLong "PumpCrossing" (467 : Nat) (12 : Int64)) ∈ lw_all := lw_g (lw_at lw_m7 199 rfl) rfl
theorem q1736 : (Jvm.Cond.constantLong "PumpCrossing" (469 : Nat) (28 : Int64)) ∈ lw_all := lw_g (lw_at lw_m7 200 rfl) rfl
theorem q1737 : (Jvm.Cond.constant "PumpCrossing" (466 : Nat) (1000000 : Int32)) ∈ lw_all := lw_g (lw_at lw_m7 201 rfl) rfl
theorem q1738 : (Jvm.Cond.methodLink "PumpCrossing" (471 : Nat) ({ cls := "PumpCrossing", name := "paidBy", desc := "(LPumpCrossing$Tray;III)I" } : Jvm.MethodName)) ∈ lw_all := lw_g (lw_at lw_m7 202 rfl) rfl
theorem q1739 : (Jvm.Cond.privateMethod ({ cls := "PumpCrossing", name := "paidBy", desc := "(LPumpCrossing$Tray;III)I" } : Jvm.MethodName)) ∈ lw_tbl := lw_at lw_m7 203 rfl
theorem q1740 : (Jvm.Cond.instanceMethod ({ cls := "PumpCrossing", name := "paidBy", desc := "(LPumpCrossing$Tray;III)I" } : Jvm.MethodName)) ∈ lw_all := lw_g (lw_at lw_m7 204 rfl) rfl
theorem q1741 : (Jvm.Cond.code ({ cls := "PumpCrossing", name := "paidBy", desc := "(LPumpCrossing$Tray;III)I" } : Jvm.MethodName) prog_1_method_66_code (6 : Nat) (Option.some Jvm.ClassFile.FieldType.int)) ∈ lw_all := lw_g (lw_at lw_m7 205 rfl) rfl
theorem q1746 : (Jvm.Cond.instanceMethod ({ cls := "PumpCrossing", name := "told", desc := "(IIII)I" } : Jvm.MethodName)) ∈ lw_all := lw_g (lw_at lw_m7 210 rfl) rfl
theorem q1747 : (Jvm.Cond.selects "PumpCrossing" ({ cls := "PumpCrossing", name := "told", desc := "(IIII)I" } : Jvm.MethodName) ({ cls := "PumpCrossing", name := "told", desc := "(IIII)I" } : Jvm.MethodName)) ∈ lw_all := lw_g (lw_at lw_m7 211 rfl) rfl
theorem q1748 : (Jvm.Cond.code ({ cls := "PumpCrossing", name := "told", desc := "(IIII)I" } : Jvm.MethodName) prog_1_method_68_code (7 : Nat) (Option.some Jvm.ClassFile.FieldType.int)) ∈ lw_all := lw_g (lw_at lw_m7 212 rfl) rfl
theorem q1753 : (Jvm.Cond.instanceMethod ({ cls := "PumpCrossing", name := "fit", desc := "(I)I" } : Jvm.MethodName)) ∈ lw_all := lw_g (lw_at lw_m7 217 rfl) rfl
theorem q1754 : (Jvm.Cond.selects "PumpCrossing" ({ cls := "PumpCrossing", name := "fit", desc := "(I)I" } : Jvm.MethodName) ({ cls := "PumpCrossing", name := "fit", desc := "(I)I" } : Jvm.MethodName)) ∈ lw_all := lw_g (lw_at lw_m7 218 rfl) rfl
theorem q1755 : (Jvm.Cond.code ({ cls := "PumpCrossing", name := "fit", desc := "(I)I" } : Jvm.MethodName) prog_1_method_69_code (3 : Nat) (Option.some Jvm.ClassFile.FieldType.int)) ∈ lw_all := lw_g (lw_at lw_m7 219 rfl) rfl
theorem q1760 : (Jvm.Cond.instanceMethod ({ cls := "PumpCrossing", name := "tray", desc := "(III)V" } : Jvm.MethodName)) ∈ lw_all := lw_g (lw_at lw_m7 224 rfl) rfl
theorem q1761 : (Jvm.Cond.selects "PumpCrossing" ({ cls := "PumpCrossing", name := "tray", desc := "(III)V" } : Jvm.MethodName) ({ cls := "PumpCrossing", name := "tray", desc := "(III)V" } : Jvm.MethodName)) ∈ lw_all := lw_g (lw_at lw_m7 225 rfl) rfl
theorem q1762 : (Jvm.Cond.codeWith ({ cls := "PumpCrossing", name := "tray", desc := "(III)V" } : Jvm.MethodName) prog_1_method_61_code (6 : Nat) (Option.none : Option Jvm.ClassFile.FieldType) [((33 : Nat), (40 : Nat), (43 : Nat), (436 : Nat))]) ∈ lw_all := lw_g (lw_at lw_m7 226 rfl) rfl
theorem q1763 : (Jvm.Cond.classLink "PumpCrossing" (436 : Nat) "java/lang/NegativeArraySizeException") ∈ lw_all := lw_g (lw_at lw_m7 227 rfl) rfl
theorem q1777 : (Jvm.Cond.methodLink "PumpCrossing" (433 : Nat) ({ cls := "PumpCrossing$Tray", name := "make", desc := "(II)V" } : Jvm.MethodName)) ∈ lw_all := lw_g (lw_at lw_m8 1 rfl) rfl
theorem q1786 : (Jvm.Cond.instanceMethod ({ cls := "PumpCrossing", name := "write", desc := "(IIJ)J" } : Jvm.MethodName)) ∈ lw_all := lw_g (lw_at lw_m8 10 rfl) rfl
theorem q1787 : (Jvm.Cond.selects "PumpCrossing" ({ cls := "PumpCrossing", name := "write", desc := "(IIJ)J" } : Jvm.MethodName) ({ cls := "PumpCrossing", name := "write", desc := "(IIJ)J" } : Jvm.MethodName)) ∈ lw_all := lw_g (lw_at lw_m8 11 rfl) rfl
theorem q1788 : (Jvm.Cond.codeWith ({ cls := "PumpCrossing", name := "write", desc := "(IIJ)J" } : Jvm.MethodName) prog_1_method_62_code (7 : Nat) (Option.some Jvm.ClassFile.FieldType.long) [((7 : Nat), (20 : Nat), (21 : Nat), (445 : Nat)), ((7 : Nat), (20 : Nat), (31 : Nat), (447 : Nat))]) ∈ lw_all := lw_g (lw_at lw_m8 12 rfl) rfl
theorem q1789 : (Jvm.Cond.classLink "PumpCrossing" (447 : Nat) "java/lang/ArrayIndexOutOfBoundsException") ∈ lw_all := lw_g (lw_at lw_m8 13 rfl) rfl
theorem q1790 : (Jvm.Cond.methodLink "PumpCrossing" (438 : Nat) ({ cls := "PumpCrossing$Tray", name := "put", desc := "(IJ)V" } : Jvm.MethodName)) ∈ lw_all := lw_g (lw_at lw_m8 14 rfl) rfl
theorem q1798 : (Jvm.Cond.instanceMethod ({ cls := "PumpCrossing", name := "image", desc := "(I)V" } : Jvm.MethodName)) ∈ lw_all := lw_g (lw_at lw_m8 22 rfl) rfl
theorem q1799 : (Jvm.Cond.selects "PumpCrossing" ({ cls := "PumpCrossing", name := "image", desc := "(I)V" } : Jvm.MethodName) ({ cls := "PumpCrossing", name := "image", desc := "(I)V" } : Jvm.MethodName)) ∈ lw_all := lw_g (lw_at lw_m8 23 rfl) rfl
theorem q1800 : (Jvm.Cond.code ({ cls := "PumpCrossing", name := "image", desc := "(I)V" } : Jvm.MethodName) prog_1_method_70_code (2 : Nat) (Option.none : Option Jvm.ClassFile.FieldType)) ∈ lw_all := lw_g (lw_at lw_m8 24 rfl) rfl
theorem q1801 : (Jvm.Cond.methodLink "PumpCrossing" (475 : Nat) ({ cls := "PumpCrossing$Crossing", name := "<init>", desc := "(LPumpCrossing$Crossing;)V" } : Jvm.MethodName)) ∈ lw_all := lw_g (lw_at lw_m8 25 rfl) rfl
theorem q1819 : (Jvm.Cond.instanceMethod ({ cls := "PumpCrossing", name := "restore", desc := "(I)V" } : Jvm.MethodName)) ∈ lw_all := lw_g (lw_at lw_m8 43 rfl) rfl
theorem q1820 : (Jvm.Cond.selects "PumpCrossing" ({ cls := "PumpCrossing", name := "restore", desc := "(I)V" } : Jvm.MethodName) ({ cls := "PumpCrossing", name := "restore", desc := "(I)V" } : Jvm.MethodName)) ∈ lw_all := lw_g (lw_at lw_m8 44 rfl) rfl
theorem q1821 : (Jvm.Cond.code ({ cls := "PumpCrossing", name := "restore", desc := "(I)V" } : Jvm.MethodName) prog_1_method_71_code (2 : Nat) (Option.none : Option Jvm.ClassFile.FieldType)) ∈ lw_all := lw_g (lw_at lw_m8 45 rfl) rfl
theorem q2412 : (Jvm.Cond.castable "PumpCrossing" "java/lang/Object") ∈ lw_tbl := lw_at lw_m10 156 rfl
theorem in_X1 : ∀ w ∈ wsX10, w ∈ lw_all := lw_in wsX10 [360, 362, 364, 366, 368, 370, 372, 374, 376, 378, 380, 382, 384, 386, 388, 390, 392, 394, 396, 398, 400] (by decide +kernel) (by decide +kernel)
