/-! PumpCrossingModel -/
set_option maxRecDepth 100000
def RX8 : String := "PumpCrossingModel"
def TX8 : u_T := fun k => match k with
  | 0 => ("PumpCrossingModel", "told", "[I", true)
  | 1 => ("PumpCrossingModel", "images", "[I", true)
  | 2 => ("PumpCrossingModel", "sums", "[J", true)
  | 3 => ("PumpCrossingModel", "imageSums", "[J", true)
  | 4 => ("PumpCrossingModel", "isImage", "[Z", true)
  | 5 => ("PumpCrossingModel", "thrown", "I", false)
  | 6 => ("PumpCrossingModel", "tape", "[I", true)
  | 7 => ("PumpCrossingModel", "fresh", "[I", true)
  | 8 => ("PumpCrossingModel", "freshLaw", "[I", true)
  | 9 => ("PumpCrossingModel", "taped", "I", false)
  | 10 => ("PumpCrossingModel", "size", "I", false)
  | 11 => ("PumpCrossingModel", "at", "I", false)
  | 12 => ("PumpCrossingModel", "begin", "I", false)
  | 13 => ("PumpCrossingModel", "token", "I", false)
  | 14 => ("PumpCrossingModel", "value", "I", false)
  | 15 => ("PumpCrossingModel", "sign", "I", false)
  | 16 => ("PumpCrossingModel", "bad", "I", false)
  | 17 => ("PumpCrossingModel", "badPlace", "I", false)
  | 18 => ("PumpCrossingModel", "faultKind", "I", false)
  | 19 => ("PumpCrossingModel", "faultPlace", "I", false)
  | 20 => ("PumpCrossingModel", "top", "I", false)
  | 21 => ("PumpCrossingModel", "nots", "I", false)
  | 22 => ("PumpCrossingModel", "pile", "[I", true)
  | 23 => ("PumpCrossingModel", "byTold", "Z", false)
  | 24 => ("PumpCrossingModel", "now", "[I", true)
  | 25 => ("PumpCrossingModel", "nextPrice", "[I", true)
  | 26 => ("PumpCrossingModel", "upper", "J", false)
  | 27 => ("PumpCrossingModel", "lower", "J", false)
  | 28 => ("PumpCrossingModel", "gains", "[I", true)
  | 29 => ("PumpCrossingModel", "sets", "[I", true)
  | 30 => ("PumpCrossingModel", "mine", "[J", true)
  | 31 => ("PumpCrossingModel", "its", "[J", true)
  | 32 => ("PumpCrossingModel", "table", "[I", true)
  | 33 => ("PumpCrossingModel", "x", "I", false)
  | 34 => ("PumpCrossingModel", "atA", "I", false)
  | 35 => ("PumpCrossingModel", "atB", "I", false)
  | 36 => ("PumpCrossingModel", "paid", "[I", true)
  | 37 => ("PumpCrossingModel", "tSort", "[I", true)
  | 38 => ("PumpCrossingModel", "tMany", "[I", true)
  | _ => ("PumpCrossingModel", "numbers", "[J", true)
def tyX8 : Nat → FieldType := fun k => match k with
  | 0 => .array .int
  | 1 => .array .int
  | 2 => .array .long
  | 3 => .array .long
  | 4 => .array .boolean
  | 5 => .int
  | 6 => .array .int
  | 7 => .array .int
  | 8 => .array .int
  | 9 => .int
  | 10 => .int
  | 11 => .int
  | 12 => .int
  | 13 => .int
  | 14 => .int
  | 15 => .int
  | 16 => .int
  | 17 => .int
  | 18 => .int
  | 19 => .int
  | 20 => .int
  | 21 => .int
  | 22 => .array .int
  | 23 => .boolean
  | 24 => .array .int
  | 25 => .array .int
  | 26 => .long
  | 27 => .long
  | 28 => .array .int
  | 29 => .array .int
  | 30 => .array .long
  | 31 => .array .long
  | 32 => .array .int
  | 33 => .int
  | 34 => .int
  | 35 => .int
  | 36 => .array .int
  | 37 => .array .int
  | 38 => .array .int
  | _ => .array .long
abbrev wsX80 : List Cond := u_ws RX8 TX8 40
set_option maxRecDepth 100000 in
theorem nmX8 : ∀ a, a < 40 → ∀ b, b < 40 → a ≠ b → (TX8 a).2.1 ≠ (TX8 b).2.1 := by decide +kernel
set_option maxRecDepth 100000 in
theorem tyX8_ok : ∀ k, k < 40 → parseFieldDescriptor (TX8 k).2.2.1 = some (tyX8 k) := by decide +kernel
abbrev cX8_init : ByteArray := prog_29_method_1_code
def yX8_init : MethodName := ⟨RX8, "<init>", "()V"⟩
def dkwX8_init_9 : List UInt8 := [167, 255, 237, 42, 180, 0, 9, 16, 120, 2, 79, 42, 180, 0, 9, 16, 122, 2, 79, 177]
abbrev dktX8_init_9 : List UInt8 := dkwX8_init_9 ++ []
def dkwX8_init_8 : List UInt8 := [181, 0, 73, 3, 60, 27, 16, 42, 162, 0, 19, 42, 180, 0, 9, 16, 78, 27, 96, 4, 79, 132, 1, 1]
abbrev dktX8_init_8 : List UInt8 := dkwX8_init_8 ++ dktX8_init_9
def dkwX8_init_7 : List UInt8 := [89, 5, 2, 79, 89, 6, 2, 79, 181, 0, 67, 42, 7, 188, 10, 181, 0, 70, 42, 16, 112, 188, 11]
abbrev dktX8_init_7 : List UInt8 := dkwX8_init_7 ++ dktX8_init_8
def dkwX8_init_6 : List UInt8 := [181, 0, 61, 42, 17, 1, 121, 188, 10, 181, 0, 64, 42, 7, 188, 10, 89, 3, 2, 79, 89, 4, 2, 79]
abbrev dktX8_init_6 : List UInt8 := dkwX8_init_6 ++ dktX8_init_7
def dkwX8_init_5 : List UInt8 := [17, 1, 72, 188, 11, 181, 0, 55, 42, 17, 1, 72, 188, 11, 181, 0, 58, 42, 17, 0, 128, 188, 10]
abbrev dktX8_init_5 : List UInt8 := dkwX8_init_5 ++ dktX8_init_6
def dkwX8_init_4 : List UInt8 := [188, 10, 181, 0, 46, 42, 17, 0, 128, 188, 10, 181, 0, 49, 42, 17, 1, 72, 188, 10, 181, 0, 52, 42]
abbrev dktX8_init_4 : List UInt8 := dkwX8_init_4 ++ dktX8_init_5
def dkwX8_init_3 : List UInt8 := [42, 2, 181, 0, 36, 42, 17, 1, 184, 188, 10, 181, 0, 40, 42, 7, 188, 10, 181, 0, 43, 42, 7]
abbrev dktX8_init_3 : List UInt8 := dkwX8_init_3 ++ dktX8_init_4
def dkwX8_init_2 : List UInt8 := [17, 1, 144, 188, 10, 181, 0, 27, 42, 17, 1, 184, 188, 10, 181, 0, 30, 42, 8, 188, 10, 181, 0, 33]
abbrev dktX8_init_2 : List UInt8 := dkwX8_init_2 ++ dktX8_init_3
def dkwX8_init_1 : List UInt8 := [16, 9, 188, 11, 181, 0, 16, 42, 16, 27, 188, 11, 181, 0, 20, 42, 6, 188, 4, 181, 0, 23, 42]
abbrev dktX8_init_1 : List UInt8 := dkwX8_init_1 ++ dktX8_init_2
def dkwX8_init_0 : List UInt8 := [42, 183, 0, 1, 42, 17, 12, 107, 188, 10, 181, 0, 9, 42, 17, 37, 65, 188, 10, 181, 0, 13, 42]
abbrev dktX8_init_0 : List UInt8 := dkwX8_init_0 ++ dktX8_init_1
theorem dksX8_init_0 : cX8_init.data.toList.drop 0 = dktX8_init_0 := by decide +kernel
theorem dksX8_init_1 : cX8_init.data.toList.drop 23 = dktX8_init_1 := dk_seg dksX8_init_0 23 rfl rfl
theorem dksX8_init_2 : cX8_init.data.toList.drop 46 = dktX8_init_2 := dk_seg dksX8_init_1 23 rfl rfl
theorem dksX8_init_3 : cX8_init.data.toList.drop 70 = dktX8_init_3 := dk_seg dksX8_init_2 24 rfl rfl
theorem dksX8_init_4 : cX8_init.data.toList.drop 93 = dktX8_init_4 := dk_seg dksX8_init_3 23 rfl rfl
theorem dksX8_init_5 : cX8_init.data.toList.drop 117 = dktX8_init_5 := dk_seg dksX8_init_4 24 rfl rfl
theorem dksX8_init_6 : cX8_init.data.toList.drop 140 = dktX8_init_6 := dk_seg dksX8_init_5 23 rfl rfl
theorem dksX8_init_7 : cX8_init.data.toList.drop 164 = dktX8_init_7 := dk_seg dksX8_init_6 24 rfl rfl
theorem dksX8_init_8 : cX8_init.data.toList.drop 187 = dktX8_init_8 := dk_seg dksX8_init_7 23 rfl rfl
theorem dksX8_init_9 : cX8_init.data.toList.drop 211 = dktX8_init_9 := dk_seg dksX8_init_8 24 rfl rfl
theorem dX8_init_0 : decode cX8_init 0 = .ok (.aload_n 0, 1) := dk_42 (dk_at dksX8_init_0 0 rfl rfl)
theorem dX8_init_1 : decode cX8_init 1 = .ok (.invokespecial 1, 3) := dk_183 0 1 (dk_at dksX8_init_0 1 rfl rfl)
theorem dX8_init_4 : decode cX8_init 4 = .ok (.aload_n 0, 1) := dk_42 (dk_at dksX8_init_0 4 rfl rfl)
theorem dX8_init_5 : decode cX8_init 5 = .ok (.sipush 3179, 3) := dk_17 12 107 (dk_at dksX8_init_0 5 rfl rfl)
theorem dX8_init_8 : decode cX8_init 8 = .ok (.newarray .int, 2) := dk_188_10 (dk_at dksX8_init_0 8 rfl rfl)
theorem dX8_init_10 : decode cX8_init 10 = .ok (.putfield 9, 3) := dk_181 0 9 (dk_at dksX8_init_0 10 rfl rfl)
theorem dX8_init_13 : decode cX8_init 13 = .ok (.aload_n 0, 1) := dk_42 (dk_at dksX8_init_0 13 rfl rfl)
theorem dX8_init_14 : decode cX8_init 14 = .ok (.sipush 9537, 3) := dk_17 37 65 (dk_at dksX8_init_0 14 rfl rfl)
theorem dX8_init_17 : decode cX8_init 17 = .ok (.newarray .int, 2) := dk_188_10 (dk_at dksX8_init_0 17 rfl rfl)
theorem dX8_init_19 : decode cX8_init 19 = .ok (.putfield 13, 3) := dk_181 0 13 (dk_at dksX8_init_0 19 rfl rfl)
theorem dX8_init_22 : decode cX8_init 22 = .ok (.aload_n 0, 1) := dk_42 (dk_at dksX8_init_0 22 rfl rfl)
theorem dX8_init_23 : decode cX8_init 23 = .ok (.bipush 9, 2) := dk_16 9 (dk_at dksX8_init_1 0 rfl rfl)
theorem dX8_init_25 : decode cX8_init 25 = .ok (.newarray .long, 2) := dk_188_11 (dk_at dksX8_init_1 2 rfl rfl)
theorem dX8_init_27 : decode cX8_init 27 = .ok (.putfield 16, 3) := dk_181 0 16 (dk_at dksX8_init_1 4 rfl rfl)
theorem dX8_init_30 : decode cX8_init 30 = .ok (.aload_n 0, 1) := dk_42 (dk_at dksX8_init_1 7 rfl rfl)
theorem dX8_init_31 : decode cX8_init 31 = .ok (.bipush 27, 2) := dk_16 27 (dk_at dksX8_init_1 8 rfl rfl)
theorem dX8_init_33 : decode cX8_init 33 = .ok (.newarray .long, 2) := dk_188_11 (dk_at dksX8_init_1 10 rfl rfl)
theorem dX8_init_35 : decode cX8_init 35 = .ok (.putfield 20, 3) := dk_181 0 20 (dk_at dksX8_init_1 12 rfl rfl)
theorem dX8_init_38 : decode cX8_init 38 = .ok (.aload_n 0, 1) := dk_42 (dk_at dksX8_init_1 15 rfl rfl)
theorem dX8_init_39 : decode cX8_init 39 = .ok (.iconst 3, 1) := dk_6 (dk_at dksX8_init_1 16 rfl rfl)
theorem dX8_init_40 : decode cX8_init 40 = .ok (.newarray .boolean, 2) := dk_188_4 (dk_at dksX8_init_1 17 rfl rfl)
theorem dX8_init_42 : decode cX8_init 42 = .ok (.putfield 23, 3) := dk_181 0 23 (dk_at dksX8_init_1 19 rfl rfl)
theorem dX8_init_45 : decode cX8_init 45 = .ok (.aload_n 0, 1) := dk_42 (dk_at dksX8_init_1 22 rfl rfl)
theorem dX8_init_46 : decode cX8_init 46 = .ok (.sipush 400, 3) := dk_17 1 144 (dk_at dksX8_init_2 0 rfl rfl)
theorem dX8_init_49 : decode cX8_init 49 = .ok (.newarray .int, 2) := dk_188_10 (dk_at dksX8_init_2 3 rfl rfl)
theorem dX8_init_51 : decode cX8_init 51 = .ok (.putfield 27, 3) := dk_181 0 27 (dk_at dksX8_init_2 5 rfl rfl)
theorem dX8_init_54 : decode cX8_init 54 = .ok (.aload_n 0, 1) := dk_42 (dk_at dksX8_init_2 8 rfl rfl)
theorem dX8_init_55 : decode cX8_init 55 = .ok (.sipush 440, 3) := dk_17 1 184 (dk_at dksX8_init_2 9 rfl rfl)
theorem dX8_init_58 : decode cX8_init 58 = .ok (.newarray .int, 2) := dk_188_10 (dk_at dksX8_init_2 12 rfl rfl)
theorem dX8_init_60 : decode cX8_init 60 = .ok (.putfield 30, 3) := dk_181 0 30 (dk_at dksX8_init_2 14 rfl rfl)
theorem dX8_init_63 : decode cX8_init 63 = .ok (.aload_n 0, 1) := dk_42 (dk_at dksX8_init_2 17 rfl rfl)
theorem dX8_init_64 : decode cX8_init 64 = .ok (.iconst 5, 1) := dk_8 (dk_at dksX8_init_2 18 rfl rfl)
theorem dX8_init_65 : decode cX8_init 65 = .ok (.newarray .int, 2) := dk_188_10 (dk_at dksX8_init_2 19 rfl rfl)
theorem dX8_init_67 : decode cX8_init 67 = .ok (.putfield 33, 3) := dk_181 0 33 (dk_at dksX8_init_2 21 rfl rfl)
theorem dX8_init_70 : decode cX8_init 70 = .ok (.aload_n 0, 1) := dk_42 (dk_at dksX8_init_3 0 rfl rfl)
theorem dX8_init_71 : decode cX8_init 71 = .ok (.iconst (-1), 1) := dk_2 (dk_at dksX8_init_3 1 rfl rfl)
theorem dX8_init_72 : decode cX8_init 72 = .ok (.putfield 36, 3) := dk_181 0 36 (dk_at dksX8_init_3 2 rfl rfl)
theorem dX8_init_75 : decode cX8_init 75 = .ok (.aload_n 0, 1) := dk_42 (dk_at dksX8_init_3 5 rfl rfl)
theorem dX8_init_76 : decode cX8_init 76 = .ok (.sipush 440, 3) := dk_17 1 184 (dk_at dksX8_init_3 6 rfl rfl)
theorem dX8_init_79 : decode cX8_init 79 = .ok (.newarray .int, 2) := dk_188_10 (dk_at dksX8_init_3 9 rfl rfl)
theorem dX8_init_81 : decode cX8_init 81 = .ok (.putfield 40, 3) := dk_181 0 40 (dk_at dksX8_init_3 11 rfl rfl)
theorem dX8_init_84 : decode cX8_init 84 = .ok (.aload_n 0, 1) := dk_42 (dk_at dksX8_init_3 14 rfl rfl)
theorem dX8_init_85 : decode cX8_init 85 = .ok (.iconst 4, 1) := dk_7 (dk_at dksX8_init_3 15 rfl rfl)
theorem dX8_init_86 : decode cX8_init 86 = .ok (.newarray .int, 2) := dk_188_10 (dk_at dksX8_init_3 16 rfl rfl)
theorem dX8_init_88 : decode cX8_init 88 = .ok (.putfield 43, 3) := dk_181 0 43 (dk_at dksX8_init_3 18 rfl rfl)
theorem dX8_init_91 : decode cX8_init 91 = .ok (.aload_n 0, 1) := dk_42 (dk_at dksX8_init_3 21 rfl rfl)
theorem dX8_init_92 : decode cX8_init 92 = .ok (.iconst 4, 1) := dk_7 (dk_at dksX8_init_3 22 rfl rfl)
theorem dX8_init_93 : decode cX8_init 93 = .ok (.newarray .int, 2) := dk_188_10 (dk_at dksX8_init_4 0 rfl rfl)
theorem dX8_init_95 : decode cX8_init 95 = .ok (.putfield 46, 3) := dk_181 0 46 (dk_at dksX8_init_4 2 rfl rfl)
theorem dX8_init_98 : decode cX8_init 98 = .ok (.aload_n 0, 1) := dk_42 (dk_at dksX8_init_4 5 rfl rfl)
theorem dX8_init_99 : decode cX8_init 99 = .ok (.sipush 128, 3) := dk_17 0 128 (dk_at dksX8_init_4 6 rfl rfl)
theorem dX8_init_102 : decode cX8_init 102 = .ok (.newarray .int, 2) := dk_188_10 (dk_at dksX8_init_4 9 rfl rfl)
theorem dX8_init_104 : decode cX8_init 104 = .ok (.putfield 49, 3) := dk_181 0 49 (dk_at dksX8_init_4 11 rfl rfl)
theorem dX8_init_107 : decode cX8_init 107 = .ok (.aload_n 0, 1) := dk_42 (dk_at dksX8_init_4 14 rfl rfl)
theorem dX8_init_108 : decode cX8_init 108 = .ok (.sipush 328, 3) := dk_17 1 72 (dk_at dksX8_init_4 15 rfl rfl)
theorem dX8_init_111 : decode cX8_init 111 = .ok (.newarray .int, 2) := dk_188_10 (dk_at dksX8_init_4 18 rfl rfl)
theorem dX8_init_113 : decode cX8_init 113 = .ok (.putfield 52, 3) := dk_181 0 52 (dk_at dksX8_init_4 20 rfl rfl)
theorem dX8_init_116 : decode cX8_init 116 = .ok (.aload_n 0, 1) := dk_42 (dk_at dksX8_init_4 23 rfl rfl)
theorem dX8_init_117 : decode cX8_init 117 = .ok (.sipush 328, 3) := dk_17 1 72 (dk_at dksX8_init_5 0 rfl rfl)
theorem dX8_init_120 : decode cX8_init 120 = .ok (.newarray .long, 2) := dk_188_11 (dk_at dksX8_init_5 3 rfl rfl)
theorem dX8_init_122 : decode cX8_init 122 = .ok (.putfield 55, 3) := dk_181 0 55 (dk_at dksX8_init_5 5 rfl rfl)
theorem dX8_init_125 : decode cX8_init 125 = .ok (.aload_n 0, 1) := dk_42 (dk_at dksX8_init_5 8 rfl rfl)
theorem dX8_init_126 : decode cX8_init 126 = .ok (.sipush 328, 3) := dk_17 1 72 (dk_at dksX8_init_5 9 rfl rfl)
theorem dX8_init_129 : decode cX8_init 129 = .ok (.newarray .long, 2) := dk_188_11 (dk_at dksX8_init_5 12 rfl rfl)
theorem dX8_init_131 : decode cX8_init 131 = .ok (.putfield 58, 3) := dk_181 0 58 (dk_at dksX8_init_5 14 rfl rfl)
theorem dX8_init_134 : decode cX8_init 134 = .ok (.aload_n 0, 1) := dk_42 (dk_at dksX8_init_5 17 rfl rfl)
theorem dX8_init_135 : decode cX8_init 135 = .ok (.sipush 128, 3) := dk_17 0 128 (dk_at dksX8_init_5 18 rfl rfl)
theorem dX8_init_138 : decode cX8_init 138 = .ok (.newarray .int, 2) := dk_188_10 (dk_at dksX8_init_5 21 rfl rfl)
theorem dX8_init_140 : decode cX8_init 140 = .ok (.putfield 61, 3) := dk_181 0 61 (dk_at dksX8_init_6 0 rfl rfl)
theorem dX8_init_143 : decode cX8_init 143 = .ok (.aload_n 0, 1) := dk_42 (dk_at dksX8_init_6 3 rfl rfl)
theorem dX8_init_144 : decode cX8_init 144 = .ok (.sipush 377, 3) := dk_17 1 121 (dk_at dksX8_init_6 4 rfl rfl)
theorem dX8_init_147 : decode cX8_init 147 = .ok (.newarray .int, 2) := dk_188_10 (dk_at dksX8_init_6 7 rfl rfl)
theorem dX8_init_149 : decode cX8_init 149 = .ok (.putfield 64, 3) := dk_181 0 64 (dk_at dksX8_init_6 9 rfl rfl)
theorem dX8_init_152 : decode cX8_init 152 = .ok (.aload_n 0, 1) := dk_42 (dk_at dksX8_init_6 12 rfl rfl)
theorem dX8_init_153 : decode cX8_init 153 = .ok (.iconst 4, 1) := dk_7 (dk_at dksX8_init_6 13 rfl rfl)
theorem dX8_init_154 : decode cX8_init 154 = .ok (.newarray .int, 2) := dk_188_10 (dk_at dksX8_init_6 14 rfl rfl)
theorem dX8_init_156 : decode cX8_init 156 = .ok (.dup, 1) := dk_89 (dk_at dksX8_init_6 16 rfl rfl)
theorem dX8_init_157 : decode cX8_init 157 = .ok (.iconst 0, 1) := dk_3 (dk_at dksX8_init_6 17 rfl rfl)
theorem dX8_init_158 : decode cX8_init 158 = .ok (.iconst (-1), 1) := dk_2 (dk_at dksX8_init_6 18 rfl rfl)
theorem dX8_init_159 : decode cX8_init 159 = .ok (.iastore, 1) := dk_79 (dk_at dksX8_init_6 19 rfl rfl)
theorem dX8_init_160 : decode cX8_init 160 = .ok (.dup, 1) := dk_89 (dk_at dksX8_init_6 20 rfl rfl)
theorem dX8_init_161 : decode cX8_init 161 = .ok (.iconst 1, 1) := dk_4 (dk_at dksX8_init_6 21 rfl rfl)
theorem dX8_init_162 : decode cX8_init 162 = .ok (.iconst (-1), 1) := dk_2 (dk_at dksX8_init_6 22 rfl rfl)
theorem dX8_init_163 : decode cX8_init 163 = .ok (.iastore, 1) := dk_79 (dk_at dksX8_init_6 23 rfl rfl)
theorem dX8_init_164 : decode cX8_init 164 = .ok (.dup, 1) := dk_89 (dk_at dksX8_init_7 0 rfl rfl)
theorem dX8_init_165 : decode cX8_init 165 = .ok (.iconst 2, 1) := dk_5 (dk_at dksX8_init_7 1 rfl rfl)
theorem dX8_init_166 : decode cX8_init 166 = .ok (.iconst (-1), 1) := dk_2 (dk_at dksX8_init_7 2 rfl rfl)
theorem dX8_init_167 : decode cX8_init 167 = .ok (.iastore, 1) := dk_79 (dk_at dksX8_init_7 3 rfl rfl)
theorem dX8_init_168 : decode cX8_init 168 = .ok (.dup, 1) := dk_89 (dk_at dksX8_init_7 4 rfl rfl)
theorem dX8_init_169 : decode cX8_init 169 = .ok (.iconst 3, 1) := dk_6 (dk_at dksX8_init_7 5 rfl rfl)
theorem dX8_init_170 : decode cX8_init 170 = .ok (.iconst (-1), 1) := dk_2 (dk_at dksX8_init_7 6 rfl rfl)
theorem dX8_init_171 : decode cX8_init 171 = .ok (.iastore, 1) := dk_79 (dk_at dksX8_init_7 7 rfl rfl)
theorem dX8_init_172 : decode cX8_init 172 = .ok (.putfield 67, 3) := dk_181 0 67 (dk_at dksX8_init_7 8 rfl rfl)
theorem dX8_init_175 : decode cX8_init 175 = .ok (.aload_n 0, 1) := dk_42 (dk_at dksX8_init_7 11 rfl rfl)
theorem dX8_init_176 : decode cX8_init 176 = .ok (.iconst 4, 1) := dk_7 (dk_at dksX8_init_7 12 rfl rfl)
theorem dX8_init_177 : decode cX8_init 177 = .ok (.newarray .int, 2) := dk_188_10 (dk_at dksX8_init_7 13 rfl rfl)
theorem dX8_init_179 : decode cX8_init 179 = .ok (.putfield 70, 3) := dk_181 0 70 (dk_at dksX8_init_7 15 rfl rfl)
theorem dX8_init_182 : decode cX8_init 182 = .ok (.aload_n 0, 1) := dk_42 (dk_at dksX8_init_7 18 rfl rfl)
theorem dX8_init_183 : decode cX8_init 183 = .ok (.bipush 112, 2) := dk_16 112 (dk_at dksX8_init_7 19 rfl rfl)
theorem dX8_init_185 : decode cX8_init 185 = .ok (.newarray .long, 2) := dk_188_11 (dk_at dksX8_init_7 21 rfl rfl)
theorem dX8_init_187 : decode cX8_init 187 = .ok (.putfield 73, 3) := dk_181 0 73 (dk_at dksX8_init_8 0 rfl rfl)
theorem dX8_init_190 : decode cX8_init 190 = .ok (.iconst 0, 1) := dk_3 (dk_at dksX8_init_8 3 rfl rfl)
theorem dX8_init_191 : decode cX8_init 191 = .ok (.istore_n 1, 1) := dk_60 (dk_at dksX8_init_8 4 rfl rfl)
theorem dX8_init_192 : decode cX8_init 192 = .ok (.iload_n 1, 1) := dk_27 (dk_at dksX8_init_8 5 rfl rfl)
theorem dX8_init_193 : decode cX8_init 193 = .ok (.bipush 42, 2) := dk_16 42 (dk_at dksX8_init_8 6 rfl rfl)
theorem dX8_init_195 : decode cX8_init 195 = .ok (.if_icmp .ge 19, 3) := dk_162 0 19 (dk_at dksX8_init_8 8 rfl rfl)
theorem dX8_init_198 : decode cX8_init 198 = .ok (.aload_n 0, 1) := dk_42 (dk_at dksX8_init_8 11 rfl rfl)
theorem dX8_init_199 : decode cX8_init 199 = .ok (.getfield 9, 3) := dk_180 0 9 (dk_at dksX8_init_8 12 rfl rfl)
theorem dX8_init_202 : decode cX8_init 202 = .ok (.bipush 78, 2) := dk_16 78 (dk_at dksX8_init_8 15 rfl rfl)
theorem dX8_init_204 : decode cX8_init 204 = .ok (.iload_n 1, 1) := dk_27 (dk_at dksX8_init_8 17 rfl rfl)
theorem dX8_init_205 : decode cX8_init 205 = .ok (.iadd, 1) := dk_96 (dk_at dksX8_init_8 18 rfl rfl)
theorem dX8_init_206 : decode cX8_init 206 = .ok (.iconst 1, 1) := dk_4 (dk_at dksX8_init_8 19 rfl rfl)
theorem dX8_init_207 : decode cX8_init 207 = .ok (.iastore, 1) := dk_79 (dk_at dksX8_init_8 20 rfl rfl)
theorem dX8_init_208 : decode cX8_init 208 = .ok (.iinc 1 1, 3) := dk_132 1 1 (dk_at dksX8_init_8 21 rfl rfl)
theorem dX8_init_211 : decode cX8_init 211 = .ok (.goto (-19), 3) := dk_167 255 237 (dk_at dksX8_init_9 0 rfl rfl)
theorem dX8_init_214 : decode cX8_init 214 = .ok (.aload_n 0, 1) := dk_42 (dk_at dksX8_init_9 3 rfl rfl)
theorem dX8_init_215 : decode cX8_init 215 = .ok (.getfield 9, 3) := dk_180 0 9 (dk_at dksX8_init_9 4 rfl rfl)
theorem dX8_init_218 : decode cX8_init 218 = .ok (.bipush 120, 2) := dk_16 120 (dk_at dksX8_init_9 7 rfl rfl)
theorem dX8_init_220 : decode cX8_init 220 = .ok (.iconst (-1), 1) := dk_2 (dk_at dksX8_init_9 9 rfl rfl)
theorem dX8_init_221 : decode cX8_init 221 = .ok (.iastore, 1) := dk_79 (dk_at dksX8_init_9 10 rfl rfl)
theorem dX8_init_222 : decode cX8_init 222 = .ok (.aload_n 0, 1) := dk_42 (dk_at dksX8_init_9 11 rfl rfl)
theorem dX8_init_223 : decode cX8_init 223 = .ok (.getfield 9, 3) := dk_180 0 9 (dk_at dksX8_init_9 12 rfl rfl)
theorem dX8_init_226 : decode cX8_init 226 = .ok (.bipush 122, 2) := dk_16 122 (dk_at dksX8_init_9 15 rfl rfl)
theorem dX8_init_228 : decode cX8_init 228 = .ok (.iconst (-1), 1) := dk_2 (dk_at dksX8_init_9 17 rfl rfl)
theorem dX8_init_229 : decode cX8_init 229 = .ok (.iastore, 1) := dk_79 (dk_at dksX8_init_9 18 rfl rfl)
theorem dX8_init_230 : decode cX8_init 230 = .ok (.return_, 1) := dk_177 (dk_at dksX8_init_9 19 rfl rfl)
abbrev cX8_thrown : ByteArray := prog_29_method_2_code
def yX8_thrown : MethodName := ⟨RX8, "thrown", "()I"⟩
theorem dX8_thrown_0 : decode cX8_thrown 0 = .ok (.aload_n 0, 1) := by decide +kernel
theorem dX8_thrown_1 : decode cX8_thrown 1 = .ok (.getfield 76, 3) := by decide +kernel
theorem dX8_thrown_4 : decode cX8_thrown 4 = .ok (.ireturn, 1) := by decide +kernel
abbrev cX8_station : ByteArray := prog_29_method_6_code
def yX8_station : MethodName := ⟨RX8, "station", "(III)I"⟩
def dkwX8_station_7 : List UInt8 := [46, 4, 96, 79, 21, 4, 172]
abbrev dktX8_station_7 : List UInt8 := dkwX8_station_7 ++ []
def dkwX8_station_6 : List UInt8 := [96, 2, 79, 42, 180, 0, 9, 16, 125, 17, 1, 184, 21, 4, 104, 96, 3, 79, 42, 180, 0, 9, 3, 92]
abbrev dktX8_station_6 : List UInt8 := dkwX8_station_6 ++ dktX8_station_7
def dkwX8_station_5 : List UInt8 := [21, 4, 96, 29, 79, 42, 180, 0, 9, 16, 20, 21, 4, 96, 28, 79, 42, 180, 0, 9, 16, 24, 21, 4]
abbrev dktX8_station_5 : List UInt8 := dkwX8_station_5 ++ dktX8_station_6
def dkwX8_station_4 : List UInt8 := [16, 8, 21, 4, 96, 27, 79, 42, 180, 0, 9, 16, 12, 21, 4, 96, 28, 79, 42, 180, 0, 9, 16, 16]
abbrev dktX8_station_4 : List UInt8 := dkwX8_station_4 ++ dktX8_station_5
def dkwX8_station_3 : List UInt8 := [42, 180, 0, 9, 3, 46, 7, 160, 0, 5, 2, 172, 42, 180, 0, 9, 3, 46, 54, 4, 42, 180, 0, 9]
abbrev dktX8_station_3 : List UInt8 := dkwX8_station_3 ++ dktX8_station_4
def dkwX8_station_2 : List UInt8 := [184, 0, 79, 153, 0, 15, 29, 133, 9, 20, 0, 89, 184, 0, 79, 154, 0, 9, 42, 5, 182, 0, 83, 172]
abbrev dktX8_station_2 : List UInt8 := dkwX8_station_2 ++ dktX8_station_3
def dkwX8_station_1 : List UInt8 := [4, 182, 0, 83, 172, 27, 133, 9, 20, 0, 87, 184, 0, 79, 153, 0, 27, 28, 133, 9, 20, 0, 87]
abbrev dktX8_station_1 : List UInt8 := dkwX8_station_1 ++ dktX8_station_2
def dkwX8_station_0 : List UInt8 := [42, 3, 181, 0, 76, 42, 180, 0, 9, 5, 46, 157, 0, 12, 42, 180, 0, 9, 8, 46, 158, 0, 9, 42]
abbrev dktX8_station_0 : List UInt8 := dkwX8_station_0 ++ dktX8_station_1
theorem dksX8_station_0 : cX8_station.data.toList.drop 0 = dktX8_station_0 := by decide +kernel
theorem dksX8_station_1 : cX8_station.data.toList.drop 24 = dktX8_station_1 := dk_seg dksX8_station_0 24 rfl rfl
theorem dksX8_station_2 : cX8_station.data.toList.drop 47 = dktX8_station_2 := dk_seg dksX8_station_1 23 rfl rfl
theorem dksX8_station_3 : cX8_station.data.toList.drop 71 = dktX8_station_3 := dk_seg dksX8_station_2 24 rfl rfl
theorem dksX8_station_4 : cX8_station.data.toList.drop 95 = dktX8_station_4 := dk_seg dksX8_station_3 24 rfl rfl
theorem dksX8_station_5 : cX8_station.data.toList.drop 119 = dktX8_station_5 := dk_seg dksX8_station_4 24 rfl rfl
theorem dksX8_station_6 : cX8_station.data.toList.drop 143 = dktX8_station_6 := dk_seg dksX8_station_5 24 rfl rfl
theorem dksX8_station_7 : cX8_station.data.toList.drop 167 = dktX8_station_7 := dk_seg dksX8_station_6 24 rfl rfl
theorem dX8_station_0 : decode cX8_station 0 = .ok (.aload_n 0, 1) := dk_42 (dk_at dksX8_station_0 0 rfl rfl)
theorem dX8_station_1 : decode cX8_station 1 = .ok (.iconst 0, 1) := dk_3 (dk_at dksX8_station_0 1 rfl rfl)
theorem dX8_station_2 : decode cX8_station 2 = .ok (.putfield 76, 3) := dk_181 0 76 (dk_at dksX8_station_0 2 rfl rfl)
theorem dX8_station_5 : decode cX8_station 5 = .ok (.aload_n 0, 1) := dk_42 (dk_at dksX8_station_0 5 rfl rfl)
theorem dX8_station_6 : decode cX8_station 6 = .ok (.getfield 9, 3) := dk_180 0 9 (dk_at dksX8_station_0 6 rfl rfl)
theorem dX8_station_9 : decode cX8_station 9 = .ok (.iconst 2, 1) := dk_5 (dk_at dksX8_station_0 9 rfl rfl)
theorem dX8_station_10 : decode cX8_station 10 = .ok (.iaload, 1) := dk_46 (dk_at dksX8_station_0 10 rfl rfl)
theorem dX8_station_11 : decode cX8_station 11 = .ok (.ifCond .gt 12, 3) := dk_157 0 12 (dk_at dksX8_station_0 11 rfl rfl)
theorem dX8_station_14 : decode cX8_station 14 = .ok (.aload_n 0, 1) := dk_42 (dk_at dksX8_station_0 14 rfl rfl)
theorem dX8_station_15 : decode cX8_station 15 = .ok (.getfield 9, 3) := dk_180 0 9 (dk_at dksX8_station_0 15 rfl rfl)
theorem dX8_station_18 : decode cX8_station 18 = .ok (.iconst 5, 1) := dk_8 (dk_at dksX8_station_0 18 rfl rfl)
theorem dX8_station_19 : decode cX8_station 19 = .ok (.iaload, 1) := dk_46 (dk_at dksX8_station_0 19 rfl rfl)
theorem dX8_station_20 : decode cX8_station 20 = .ok (.ifCond .le 9, 3) := dk_158 0 9 (dk_at dksX8_station_0 20 rfl rfl)
theorem dX8_station_23 : decode cX8_station 23 = .ok (.aload_n 0, 1) := dk_42 (dk_at dksX8_station_0 23 rfl rfl)
theorem dX8_station_24 : decode cX8_station 24 = .ok (.iconst 1, 1) := dk_4 (dk_at dksX8_station_1 0 rfl rfl)
theorem dX8_station_25 : decode cX8_station 25 = .ok (.invokevirtual 83, 3) := dk_182 0 83 (dk_at dksX8_station_1 1 rfl rfl)
theorem dX8_station_28 : decode cX8_station 28 = .ok (.ireturn, 1) := dk_172 (dk_at dksX8_station_1 4 rfl rfl)
theorem dX8_station_29 : decode cX8_station 29 = .ok (.iload_n 1, 1) := dk_27 (dk_at dksX8_station_1 5 rfl rfl)
theorem dX8_station_30 : decode cX8_station 30 = .ok (.i2l, 1) := dk_133 (dk_at dksX8_station_1 6 rfl rfl)
theorem dX8_station_31 : decode cX8_station 31 = .ok (.lconst 0, 1) := dk_9 (dk_at dksX8_station_1 7 rfl rfl)
theorem dX8_station_32 : decode cX8_station 32 = .ok (.ldc2_w 87, 3) := dk_20 0 87 (dk_at dksX8_station_1 8 rfl rfl)
theorem dX8_station_35 : decode cX8_station 35 = .ok (.invokestatic 79, 3) := dk_184 0 79 (dk_at dksX8_station_1 11 rfl rfl)
theorem dX8_station_38 : decode cX8_station 38 = .ok (.ifCond .eq 27, 3) := dk_153 0 27 (dk_at dksX8_station_1 14 rfl rfl)
theorem dX8_station_41 : decode cX8_station 41 = .ok (.iload_n 2, 1) := dk_28 (dk_at dksX8_station_1 17 rfl rfl)
theorem dX8_station_42 : decode cX8_station 42 = .ok (.i2l, 1) := dk_133 (dk_at dksX8_station_1 18 rfl rfl)
theorem dX8_station_43 : decode cX8_station 43 = .ok (.lconst 0, 1) := dk_9 (dk_at dksX8_station_1 19 rfl rfl)
theorem dX8_station_44 : decode cX8_station 44 = .ok (.ldc2_w 87, 3) := dk_20 0 87 (dk_at dksX8_station_1 20 rfl rfl)
theorem dX8_station_47 : decode cX8_station 47 = .ok (.invokestatic 79, 3) := dk_184 0 79 (dk_at dksX8_station_2 0 rfl rfl)
theorem dX8_station_50 : decode cX8_station 50 = .ok (.ifCond .eq 15, 3) := dk_153 0 15 (dk_at dksX8_station_2 3 rfl rfl)
theorem dX8_station_53 : decode cX8_station 53 = .ok (.iload_n 3, 1) := dk_29 (dk_at dksX8_station_2 6 rfl rfl)
theorem dX8_station_54 : decode cX8_station 54 = .ok (.i2l, 1) := dk_133 (dk_at dksX8_station_2 7 rfl rfl)
theorem dX8_station_55 : decode cX8_station 55 = .ok (.lconst 0, 1) := dk_9 (dk_at dksX8_station_2 8 rfl rfl)
theorem dX8_station_56 : decode cX8_station 56 = .ok (.ldc2_w 89, 3) := dk_20 0 89 (dk_at dksX8_station_2 9 rfl rfl)
theorem dX8_station_59 : decode cX8_station 59 = .ok (.invokestatic 79, 3) := dk_184 0 79 (dk_at dksX8_station_2 12 rfl rfl)
theorem dX8_station_62 : decode cX8_station 62 = .ok (.ifCond .ne 9, 3) := dk_154 0 9 (dk_at dksX8_station_2 15 rfl rfl)
theorem dX8_station_65 : decode cX8_station 65 = .ok (.aload_n 0, 1) := dk_42 (dk_at dksX8_station_2 18 rfl rfl)
theorem dX8_station_66 : decode cX8_station 66 = .ok (.iconst 2, 1) := dk_5 (dk_at dksX8_station_2 19 rfl rfl)
theorem dX8_station_67 : decode cX8_station 67 = .ok (.invokevirtual 83, 3) := dk_182 0 83 (dk_at dksX8_station_2 20 rfl rfl)
theorem dX8_station_70 : decode cX8_station 70 = .ok (.ireturn, 1) := dk_172 (dk_at dksX8_station_2 23 rfl rfl)
theorem dX8_station_71 : decode cX8_station 71 = .ok (.aload_n 0, 1) := dk_42 (dk_at dksX8_station_3 0 rfl rfl)
theorem dX8_station_72 : decode cX8_station 72 = .ok (.getfield 9, 3) := dk_180 0 9 (dk_at dksX8_station_3 1 rfl rfl)
theorem dX8_station_75 : decode cX8_station 75 = .ok (.iconst 0, 1) := dk_3 (dk_at dksX8_station_3 4 rfl rfl)
theorem dX8_station_76 : decode cX8_station 76 = .ok (.iaload, 1) := dk_46 (dk_at dksX8_station_3 5 rfl rfl)
theorem dX8_station_77 : decode cX8_station 77 = .ok (.iconst 4, 1) := dk_7 (dk_at dksX8_station_3 6 rfl rfl)
theorem dX8_station_78 : decode cX8_station 78 = .ok (.if_icmp .ne 5, 3) := dk_160 0 5 (dk_at dksX8_station_3 7 rfl rfl)
theorem dX8_station_81 : decode cX8_station 81 = .ok (.iconst (-1), 1) := dk_2 (dk_at dksX8_station_3 10 rfl rfl)
theorem dX8_station_82 : decode cX8_station 82 = .ok (.ireturn, 1) := dk_172 (dk_at dksX8_station_3 11 rfl rfl)
theorem dX8_station_83 : decode cX8_station 83 = .ok (.aload_n 0, 1) := dk_42 (dk_at dksX8_station_3 12 rfl rfl)
theorem dX8_station_84 : decode cX8_station 84 = .ok (.getfield 9, 3) := dk_180 0 9 (dk_at dksX8_station_3 13 rfl rfl)
theorem dX8_station_87 : decode cX8_station 87 = .ok (.iconst 0, 1) := dk_3 (dk_at dksX8_station_3 16 rfl rfl)
theorem dX8_station_88 : decode cX8_station 88 = .ok (.iaload, 1) := dk_46 (dk_at dksX8_station_3 17 rfl rfl)
theorem dX8_station_89 : decode cX8_station 89 = .ok (.istore 4, 2) := dk_54 4 (dk_at dksX8_station_3 18 rfl rfl)
theorem dX8_station_91 : decode cX8_station 91 = .ok (.aload_n 0, 1) := dk_42 (dk_at dksX8_station_3 20 rfl rfl)
theorem dX8_station_92 : decode cX8_station 92 = .ok (.getfield 9, 3) := dk_180 0 9 (dk_at dksX8_station_3 21 rfl rfl)
theorem dX8_station_95 : decode cX8_station 95 = .ok (.bipush 8, 2) := dk_16 8 (dk_at dksX8_station_4 0 rfl rfl)
theorem dX8_station_97 : decode cX8_station 97 = .ok (.iload 4, 2) := dk_21 4 (dk_at dksX8_station_4 2 rfl rfl)
theorem dX8_station_99 : decode cX8_station 99 = .ok (.iadd, 1) := dk_96 (dk_at dksX8_station_4 4 rfl rfl)
theorem dX8_station_100 : decode cX8_station 100 = .ok (.iload_n 1, 1) := dk_27 (dk_at dksX8_station_4 5 rfl rfl)
theorem dX8_station_101 : decode cX8_station 101 = .ok (.iastore, 1) := dk_79 (dk_at dksX8_station_4 6 rfl rfl)
theorem dX8_station_102 : decode cX8_station 102 = .ok (.aload_n 0, 1) := dk_42 (dk_at dksX8_station_4 7 rfl rfl)
theorem dX8_station_103 : decode cX8_station 103 = .ok (.getfield 9, 3) := dk_180 0 9 (dk_at dksX8_station_4 8 rfl rfl)
theorem dX8_station_106 : decode cX8_station 106 = .ok (.bipush 12, 2) := dk_16 12 (dk_at dksX8_station_4 11 rfl rfl)
theorem dX8_station_108 : decode cX8_station 108 = .ok (.iload 4, 2) := dk_21 4 (dk_at dksX8_station_4 13 rfl rfl)
theorem dX8_station_110 : decode cX8_station 110 = .ok (.iadd, 1) := dk_96 (dk_at dksX8_station_4 15 rfl rfl)
theorem dX8_station_111 : decode cX8_station 111 = .ok (.iload_n 2, 1) := dk_28 (dk_at dksX8_station_4 16 rfl rfl)
theorem dX8_station_112 : decode cX8_station 112 = .ok (.iastore, 1) := dk_79 (dk_at dksX8_station_4 17 rfl rfl)
theorem dX8_station_113 : decode cX8_station 113 = .ok (.aload_n 0, 1) := dk_42 (dk_at dksX8_station_4 18 rfl rfl)
theorem dX8_station_114 : decode cX8_station 114 = .ok (.getfield 9, 3) := dk_180 0 9 (dk_at dksX8_station_4 19 rfl rfl)
theorem dX8_station_117 : decode cX8_station 117 = .ok (.bipush 16, 2) := dk_16 16 (dk_at dksX8_station_4 22 rfl rfl)
theorem dX8_station_119 : decode cX8_station 119 = .ok (.iload 4, 2) := dk_21 4 (dk_at dksX8_station_5 0 rfl rfl)
theorem dX8_station_121 : decode cX8_station 121 = .ok (.iadd, 1) := dk_96 (dk_at dksX8_station_5 2 rfl rfl)
theorem dX8_station_122 : decode cX8_station 122 = .ok (.iload_n 3, 1) := dk_29 (dk_at dksX8_station_5 3 rfl rfl)
theorem dX8_station_123 : decode cX8_station 123 = .ok (.iastore, 1) := dk_79 (dk_at dksX8_station_5 4 rfl rfl)
theorem dX8_station_124 : decode cX8_station 124 = .ok (.aload_n 0, 1) := dk_42 (dk_at dksX8_station_5 5 rfl rfl)
theorem dX8_station_125 : decode cX8_station 125 = .ok (.getfield 9, 3) := dk_180 0 9 (dk_at dksX8_station_5 6 rfl rfl)
theorem dX8_station_128 : decode cX8_station 128 = .ok (.bipush 20, 2) := dk_16 20 (dk_at dksX8_station_5 9 rfl rfl)
theorem dX8_station_130 : decode cX8_station 130 = .ok (.iload 4, 2) := dk_21 4 (dk_at dksX8_station_5 11 rfl rfl)
theorem dX8_station_132 : decode cX8_station 132 = .ok (.iadd, 1) := dk_96 (dk_at dksX8_station_5 13 rfl rfl)
theorem dX8_station_133 : decode cX8_station 133 = .ok (.iload_n 2, 1) := dk_28 (dk_at dksX8_station_5 14 rfl rfl)
theorem dX8_station_134 : decode cX8_station 134 = .ok (.iastore, 1) := dk_79 (dk_at dksX8_station_5 15 rfl rfl)
theorem dX8_station_135 : decode cX8_station 135 = .ok (.aload_n 0, 1) := dk_42 (dk_at dksX8_station_5 16 rfl rfl)
theorem dX8_station_136 : decode cX8_station 136 = .ok (.getfield 9, 3) := dk_180 0 9 (dk_at dksX8_station_5 17 rfl rfl)
theorem dX8_station_139 : decode cX8_station 139 = .ok (.bipush 24, 2) := dk_16 24 (dk_at dksX8_station_5 20 rfl rfl)
theorem dX8_station_141 : decode cX8_station 141 = .ok (.iload 4, 2) := dk_21 4 (dk_at dksX8_station_5 22 rfl rfl)
theorem dX8_station_143 : decode cX8_station 143 = .ok (.iadd, 1) := dk_96 (dk_at dksX8_station_6 0 rfl rfl)
theorem dX8_station_144 : decode cX8_station 144 = .ok (.iconst (-1), 1) := dk_2 (dk_at dksX8_station_6 1 rfl rfl)
theorem dX8_station_145 : decode cX8_station 145 = .ok (.iastore, 1) := dk_79 (dk_at dksX8_station_6 2 rfl rfl)
theorem dX8_station_146 : decode cX8_station 146 = .ok (.aload_n 0, 1) := dk_42 (dk_at dksX8_station_6 3 rfl rfl)
theorem dX8_station_147 : decode cX8_station 147 = .ok (.getfield 9, 3) := dk_180 0 9 (dk_at dksX8_station_6 4 rfl rfl)
theorem dX8_station_150 : decode cX8_station 150 = .ok (.bipush 125, 2) := dk_16 125 (dk_at dksX8_station_6 7 rfl rfl)
theorem dX8_station_152 : decode cX8_station 152 = .ok (.sipush 440, 3) := dk_17 1 184 (dk_at dksX8_station_6 9 rfl rfl)
theorem dX8_station_155 : decode cX8_station 155 = .ok (.iload 4, 2) := dk_21 4 (dk_at dksX8_station_6 12 rfl rfl)
theorem dX8_station_157 : decode cX8_station 157 = .ok (.imul, 1) := dk_104 (dk_at dksX8_station_6 14 rfl rfl)
theorem dX8_station_158 : decode cX8_station 158 = .ok (.iadd, 1) := dk_96 (dk_at dksX8_station_6 15 rfl rfl)
theorem dX8_station_159 : decode cX8_station 159 = .ok (.iconst 0, 1) := dk_3 (dk_at dksX8_station_6 16 rfl rfl)
theorem dX8_station_160 : decode cX8_station 160 = .ok (.iastore, 1) := dk_79 (dk_at dksX8_station_6 17 rfl rfl)
theorem dX8_station_161 : decode cX8_station 161 = .ok (.aload_n 0, 1) := dk_42 (dk_at dksX8_station_6 18 rfl rfl)
theorem dX8_station_162 : decode cX8_station 162 = .ok (.getfield 9, 3) := dk_180 0 9 (dk_at dksX8_station_6 19 rfl rfl)
theorem dX8_station_165 : decode cX8_station 165 = .ok (.iconst 0, 1) := dk_3 (dk_at dksX8_station_6 22 rfl rfl)
theorem dX8_station_166 : decode cX8_station 166 = .ok (.dup2, 1) := dk_92 (dk_at dksX8_station_6 23 rfl rfl)
theorem dX8_station_167 : decode cX8_station 167 = .ok (.iaload, 1) := dk_46 (dk_at dksX8_station_7 0 rfl rfl)
theorem dX8_station_168 : decode cX8_station 168 = .ok (.iconst 1, 1) := dk_4 (dk_at dksX8_station_7 1 rfl rfl)
theorem dX8_station_169 : decode cX8_station 169 = .ok (.iadd, 1) := dk_96 (dk_at dksX8_station_7 2 rfl rfl)
theorem dX8_station_170 : decode cX8_station 170 = .ok (.iastore, 1) := dk_79 (dk_at dksX8_station_7 3 rfl rfl)
theorem dX8_station_171 : decode cX8_station 171 = .ok (.iload 4, 2) := dk_21 4 (dk_at dksX8_station_7 4 rfl rfl)
theorem dX8_station_173 : decode cX8_station 173 = .ok (.ireturn, 1) := dk_172 (dk_at dksX8_station_7 6 rfl rfl)
abbrev cX8_fails : ByteArray := prog_29_method_3_code
def yX8_fails : MethodName := ⟨RX8, "fails", "(I)I"⟩
def dkwX8_fails_0 : List UInt8 := [42, 27, 181, 0, 76, 3, 172]
abbrev dktX8_fails_0 : List UInt8 := dkwX8_fails_0 ++ []
theorem dksX8_fails_0 : cX8_fails.data.toList.drop 0 = dktX8_fails_0 := by decide +kernel
theorem dX8_fails_0 : decode cX8_fails 0 = .ok (.aload_n 0, 1) := dk_42 (dk_at dksX8_fails_0 0 rfl rfl)
theorem dX8_fails_1 : decode cX8_fails 1 = .ok (.iload_n 1, 1) := dk_27 (dk_at dksX8_fails_0 1 rfl rfl)
theorem dX8_fails_2 : decode cX8_fails 2 = .ok (.putfield 76, 3) := dk_181 0 76 (dk_at dksX8_fails_0 2 rfl rfl)
theorem dX8_fails_5 : decode cX8_fails 5 = .ok (.iconst 0, 1) := dk_3 (dk_at dksX8_fails_0 5 rfl rfl)
theorem dX8_fails_6 : decode cX8_fails 6 = .ok (.ireturn, 1) := dk_172 (dk_at dksX8_fails_0 6 rfl rfl)
abbrev cX8_within : ByteArray := prog_29_method_4_code
def yX8_within : MethodName := ⟨RX8, "within", "(JJJ)Z"⟩
def dkwX8_within_0 : List UInt8 := [30, 32, 148, 155, 0, 14, 30, 22, 4, 148, 157, 0, 7, 4, 167, 0, 4, 3, 172]
abbrev dktX8_within_0 : List UInt8 := dkwX8_within_0 ++ []
theorem dksX8_within_0 : cX8_within.data.toList.drop 0 = dktX8_within_0 := by decide +kernel
theorem dX8_within_0 : decode cX8_within 0 = .ok (.lload_n 0, 1) := dk_30 (dk_at dksX8_within_0 0 rfl rfl)
theorem dX8_within_1 : decode cX8_within 1 = .ok (.lload_n 2, 1) := dk_32 (dk_at dksX8_within_0 1 rfl rfl)
theorem dX8_within_2 : decode cX8_within 2 = .ok (.lcmp, 1) := dk_148 (dk_at dksX8_within_0 2 rfl rfl)
theorem dX8_within_3 : decode cX8_within 3 = .ok (.ifCond .lt 14, 3) := dk_155 0 14 (dk_at dksX8_within_0 3 rfl rfl)
theorem dX8_within_6 : decode cX8_within 6 = .ok (.lload_n 0, 1) := dk_30 (dk_at dksX8_within_0 6 rfl rfl)
theorem dX8_within_7 : decode cX8_within 7 = .ok (.lload 4, 2) := dk_22 4 (dk_at dksX8_within_0 7 rfl rfl)
theorem dX8_within_9 : decode cX8_within 9 = .ok (.lcmp, 1) := dk_148 (dk_at dksX8_within_0 9 rfl rfl)
theorem dX8_within_10 : decode cX8_within 10 = .ok (.ifCond .gt 7, 3) := dk_157 0 7 (dk_at dksX8_within_0 10 rfl rfl)
theorem dX8_within_13 : decode cX8_within 13 = .ok (.iconst 1, 1) := dk_4 (dk_at dksX8_within_0 13 rfl rfl)
theorem dX8_within_14 : decode cX8_within 14 = .ok (.goto 4, 3) := dk_167 0 4 (dk_at dksX8_within_0 14 rfl rfl)
theorem dX8_within_17 : decode cX8_within 17 = .ok (.iconst 0, 1) := dk_3 (dk_at dksX8_within_0 17 rfl rfl)
theorem dX8_within_18 : decode cX8_within 18 = .ok (.ireturn, 1) := dk_172 (dk_at dksX8_within_0 18 rfl rfl)
abbrev cX8_driver : ByteArray := prog_29_method_7_code
def yX8_driver : MethodName := ⟨RX8, "driver", "(IIII)I"⟩
def dkwX8_driver_6 : List UInt8 := [4, 96, 79, 42, 180, 0, 9, 4, 46, 4, 100, 172]
abbrev dktX8_driver_6 : List UInt8 := dkwX8_driver_6 ++ []
def dkwX8_driver_5 : List UInt8 := [21, 5, 5, 96, 29, 79, 42, 180, 0, 9, 21, 5, 6, 96, 21, 4, 79, 42, 180, 0, 9, 4, 92, 46]
abbrev dktX8_driver_5 : List UInt8 := dkwX8_driver_5 ++ dktX8_driver_6
def dkwX8_driver_4 : List UInt8 := [54, 5, 42, 180, 0, 9, 21, 5, 27, 79, 42, 180, 0, 9, 21, 5, 4, 96, 28, 79, 42, 180, 0, 9]
abbrev dktX8_driver_4 : List UInt8 := dkwX8_driver_4 ++ dktX8_driver_5
def dkwX8_driver_3 : List UInt8 := [180, 0, 9, 4, 46, 16, 6, 160, 0, 5, 2, 172, 16, 28, 7, 42, 180, 0, 9, 4, 46, 104, 96]
abbrev dktX8_driver_3 : List UInt8 := dkwX8_driver_3 ++ dktX8_driver_4
def dkwX8_driver_2 : List UInt8 := [162, 0, 16, 21, 4, 133, 9, 20, 0, 95, 184, 0, 79, 154, 0, 9, 42, 5, 182, 0, 83, 172, 42]
abbrev dktX8_driver_2 : List UInt8 := dkwX8_driver_2 ++ dktX8_driver_3
def dkwX8_driver_1 : List UInt8 := [20, 0, 87, 184, 0, 79, 153, 0, 32, 29, 155, 0, 28, 29, 4, 42, 180, 0, 9, 3, 46, 120]
abbrev dktX8_driver_1 : List UInt8 := dkwX8_driver_1 ++ dktX8_driver_2
def dkwX8_driver_0 : List UInt8 := [42, 3, 181, 0, 76, 42, 28, 182, 0, 91, 154, 0, 9, 42, 4, 182, 0, 83, 172, 27, 133, 10]
abbrev dktX8_driver_0 : List UInt8 := dkwX8_driver_0 ++ dktX8_driver_1
theorem dksX8_driver_0 : cX8_driver.data.toList.drop 0 = dktX8_driver_0 := by decide +kernel
theorem dksX8_driver_1 : cX8_driver.data.toList.drop 22 = dktX8_driver_1 := dk_seg dksX8_driver_0 22 rfl rfl
theorem dksX8_driver_2 : cX8_driver.data.toList.drop 44 = dktX8_driver_2 := dk_seg dksX8_driver_1 22 rfl rfl
theorem dksX8_driver_3 : cX8_driver.data.toList.drop 67 = dktX8_driver_3 := dk_seg dksX8_driver_2 23 rfl rfl
theorem dksX8_driver_4 : cX8_driver.data.toList.drop 90 = dktX8_driver_4 := dk_seg dksX8_driver_3 23 rfl rfl
theorem dksX8_driver_5 : cX8_driver.data.toList.drop 114 = dktX8_driver_5 := dk_seg dksX8_driver_4 24 rfl rfl
theorem dksX8_driver_6 : cX8_driver.data.toList.drop 138 = dktX8_driver_6 := dk_seg dksX8_driver_5 24 rfl rfl
theorem dX8_driver_0 : decode cX8_driver 0 = .ok (.aload_n 0, 1) := dk_42 (dk_at dksX8_driver_0 0 rfl rfl)
theorem dX8_driver_1 : decode cX8_driver 1 = .ok (.iconst 0, 1) := dk_3 (dk_at dksX8_driver_0 1 rfl rfl)
theorem dX8_driver_2 : decode cX8_driver 2 = .ok (.putfield 76, 3) := dk_181 0 76 (dk_at dksX8_driver_0 2 rfl rfl)
theorem dX8_driver_5 : decode cX8_driver 5 = .ok (.aload_n 0, 1) := dk_42 (dk_at dksX8_driver_0 5 rfl rfl)
theorem dX8_driver_6 : decode cX8_driver 6 = .ok (.iload_n 2, 1) := dk_28 (dk_at dksX8_driver_0 6 rfl rfl)
theorem dX8_driver_7 : decode cX8_driver 7 = .ok (.invokevirtual 91, 3) := dk_182 0 91 (dk_at dksX8_driver_0 7 rfl rfl)
theorem dX8_driver_10 : decode cX8_driver 10 = .ok (.ifCond .ne 9, 3) := dk_154 0 9 (dk_at dksX8_driver_0 10 rfl rfl)
theorem dX8_driver_13 : decode cX8_driver 13 = .ok (.aload_n 0, 1) := dk_42 (dk_at dksX8_driver_0 13 rfl rfl)
theorem dX8_driver_14 : decode cX8_driver 14 = .ok (.iconst 1, 1) := dk_4 (dk_at dksX8_driver_0 14 rfl rfl)
theorem dX8_driver_15 : decode cX8_driver 15 = .ok (.invokevirtual 83, 3) := dk_182 0 83 (dk_at dksX8_driver_0 15 rfl rfl)
theorem dX8_driver_18 : decode cX8_driver 18 = .ok (.ireturn, 1) := dk_172 (dk_at dksX8_driver_0 18 rfl rfl)
theorem dX8_driver_19 : decode cX8_driver 19 = .ok (.iload_n 1, 1) := dk_27 (dk_at dksX8_driver_0 19 rfl rfl)
theorem dX8_driver_20 : decode cX8_driver 20 = .ok (.i2l, 1) := dk_133 (dk_at dksX8_driver_0 20 rfl rfl)
theorem dX8_driver_21 : decode cX8_driver 21 = .ok (.lconst 1, 1) := dk_10 (dk_at dksX8_driver_0 21 rfl rfl)
theorem dX8_driver_22 : decode cX8_driver 22 = .ok (.ldc2_w 87, 3) := dk_20 0 87 (dk_at dksX8_driver_1 0 rfl rfl)
theorem dX8_driver_25 : decode cX8_driver 25 = .ok (.invokestatic 79, 3) := dk_184 0 79 (dk_at dksX8_driver_1 3 rfl rfl)
theorem dX8_driver_28 : decode cX8_driver 28 = .ok (.ifCond .eq 32, 3) := dk_153 0 32 (dk_at dksX8_driver_1 6 rfl rfl)
theorem dX8_driver_31 : decode cX8_driver 31 = .ok (.iload_n 3, 1) := dk_29 (dk_at dksX8_driver_1 9 rfl rfl)
theorem dX8_driver_32 : decode cX8_driver 32 = .ok (.ifCond .lt 28, 3) := dk_155 0 28 (dk_at dksX8_driver_1 10 rfl rfl)
theorem dX8_driver_35 : decode cX8_driver 35 = .ok (.iload_n 3, 1) := dk_29 (dk_at dksX8_driver_1 13 rfl rfl)
theorem dX8_driver_36 : decode cX8_driver 36 = .ok (.iconst 1, 1) := dk_4 (dk_at dksX8_driver_1 14 rfl rfl)
theorem dX8_driver_37 : decode cX8_driver 37 = .ok (.aload_n 0, 1) := dk_42 (dk_at dksX8_driver_1 15 rfl rfl)
theorem dX8_driver_38 : decode cX8_driver 38 = .ok (.getfield 9, 3) := dk_180 0 9 (dk_at dksX8_driver_1 16 rfl rfl)
theorem dX8_driver_41 : decode cX8_driver 41 = .ok (.iconst 0, 1) := dk_3 (dk_at dksX8_driver_1 19 rfl rfl)
theorem dX8_driver_42 : decode cX8_driver 42 = .ok (.iaload, 1) := dk_46 (dk_at dksX8_driver_1 20 rfl rfl)
theorem dX8_driver_43 : decode cX8_driver 43 = .ok (.ishl, 1) := dk_120 (dk_at dksX8_driver_1 21 rfl rfl)
theorem dX8_driver_44 : decode cX8_driver 44 = .ok (.if_icmp .ge 16, 3) := dk_162 0 16 (dk_at dksX8_driver_2 0 rfl rfl)
theorem dX8_driver_47 : decode cX8_driver 47 = .ok (.iload 4, 2) := dk_21 4 (dk_at dksX8_driver_2 3 rfl rfl)
theorem dX8_driver_49 : decode cX8_driver 49 = .ok (.i2l, 1) := dk_133 (dk_at dksX8_driver_2 5 rfl rfl)
theorem dX8_driver_50 : decode cX8_driver 50 = .ok (.lconst 0, 1) := dk_9 (dk_at dksX8_driver_2 6 rfl rfl)
theorem dX8_driver_51 : decode cX8_driver 51 = .ok (.ldc2_w 95, 3) := dk_20 0 95 (dk_at dksX8_driver_2 7 rfl rfl)
theorem dX8_driver_54 : decode cX8_driver 54 = .ok (.invokestatic 79, 3) := dk_184 0 79 (dk_at dksX8_driver_2 10 rfl rfl)
theorem dX8_driver_57 : decode cX8_driver 57 = .ok (.ifCond .ne 9, 3) := dk_154 0 9 (dk_at dksX8_driver_2 13 rfl rfl)
theorem dX8_driver_60 : decode cX8_driver 60 = .ok (.aload_n 0, 1) := dk_42 (dk_at dksX8_driver_2 16 rfl rfl)
theorem dX8_driver_61 : decode cX8_driver 61 = .ok (.iconst 2, 1) := dk_5 (dk_at dksX8_driver_2 17 rfl rfl)
theorem dX8_driver_62 : decode cX8_driver 62 = .ok (.invokevirtual 83, 3) := dk_182 0 83 (dk_at dksX8_driver_2 18 rfl rfl)
theorem dX8_driver_65 : decode cX8_driver 65 = .ok (.ireturn, 1) := dk_172 (dk_at dksX8_driver_2 21 rfl rfl)
theorem dX8_driver_66 : decode cX8_driver 66 = .ok (.aload_n 0, 1) := dk_42 (dk_at dksX8_driver_2 22 rfl rfl)
theorem dX8_driver_67 : decode cX8_driver 67 = .ok (.getfield 9, 3) := dk_180 0 9 (dk_at dksX8_driver_3 0 rfl rfl)
theorem dX8_driver_70 : decode cX8_driver 70 = .ok (.iconst 1, 1) := dk_4 (dk_at dksX8_driver_3 3 rfl rfl)
theorem dX8_driver_71 : decode cX8_driver 71 = .ok (.iaload, 1) := dk_46 (dk_at dksX8_driver_3 4 rfl rfl)
theorem dX8_driver_72 : decode cX8_driver 72 = .ok (.bipush 6, 2) := dk_16 6 (dk_at dksX8_driver_3 5 rfl rfl)
theorem dX8_driver_74 : decode cX8_driver 74 = .ok (.if_icmp .ne 5, 3) := dk_160 0 5 (dk_at dksX8_driver_3 7 rfl rfl)
theorem dX8_driver_77 : decode cX8_driver 77 = .ok (.iconst (-1), 1) := dk_2 (dk_at dksX8_driver_3 10 rfl rfl)
theorem dX8_driver_78 : decode cX8_driver 78 = .ok (.ireturn, 1) := dk_172 (dk_at dksX8_driver_3 11 rfl rfl)
theorem dX8_driver_79 : decode cX8_driver 79 = .ok (.bipush 28, 2) := dk_16 28 (dk_at dksX8_driver_3 12 rfl rfl)
theorem dX8_driver_81 : decode cX8_driver 81 = .ok (.iconst 4, 1) := dk_7 (dk_at dksX8_driver_3 14 rfl rfl)
theorem dX8_driver_82 : decode cX8_driver 82 = .ok (.aload_n 0, 1) := dk_42 (dk_at dksX8_driver_3 15 rfl rfl)
theorem dX8_driver_83 : decode cX8_driver 83 = .ok (.getfield 9, 3) := dk_180 0 9 (dk_at dksX8_driver_3 16 rfl rfl)
theorem dX8_driver_86 : decode cX8_driver 86 = .ok (.iconst 1, 1) := dk_4 (dk_at dksX8_driver_3 19 rfl rfl)
theorem dX8_driver_87 : decode cX8_driver 87 = .ok (.iaload, 1) := dk_46 (dk_at dksX8_driver_3 20 rfl rfl)
theorem dX8_driver_88 : decode cX8_driver 88 = .ok (.imul, 1) := dk_104 (dk_at dksX8_driver_3 21 rfl rfl)
theorem dX8_driver_89 : decode cX8_driver 89 = .ok (.iadd, 1) := dk_96 (dk_at dksX8_driver_3 22 rfl rfl)
theorem dX8_driver_90 : decode cX8_driver 90 = .ok (.istore 5, 2) := dk_54 5 (dk_at dksX8_driver_4 0 rfl rfl)
theorem dX8_driver_92 : decode cX8_driver 92 = .ok (.aload_n 0, 1) := dk_42 (dk_at dksX8_driver_4 2 rfl rfl)
theorem dX8_driver_93 : decode cX8_driver 93 = .ok (.getfield 9, 3) := dk_180 0 9 (dk_at dksX8_driver_4 3 rfl rfl)
theorem dX8_driver_96 : decode cX8_driver 96 = .ok (.iload 5, 2) := dk_21 5 (dk_at dksX8_driver_4 6 rfl rfl)
theorem dX8_driver_98 : decode cX8_driver 98 = .ok (.iload_n 1, 1) := dk_27 (dk_at dksX8_driver_4 8 rfl rfl)
theorem dX8_driver_99 : decode cX8_driver 99 = .ok (.iastore, 1) := dk_79 (dk_at dksX8_driver_4 9 rfl rfl)
theorem dX8_driver_100 : decode cX8_driver 100 = .ok (.aload_n 0, 1) := dk_42 (dk_at dksX8_driver_4 10 rfl rfl)
theorem dX8_driver_101 : decode cX8_driver 101 = .ok (.getfield 9, 3) := dk_180 0 9 (dk_at dksX8_driver_4 11 rfl rfl)
theorem dX8_driver_104 : decode cX8_driver 104 = .ok (.iload 5, 2) := dk_21 5 (dk_at dksX8_driver_4 14 rfl rfl)
theorem dX8_driver_106 : decode cX8_driver 106 = .ok (.iconst 1, 1) := dk_4 (dk_at dksX8_driver_4 16 rfl rfl)
theorem dX8_driver_107 : decode cX8_driver 107 = .ok (.iadd, 1) := dk_96 (dk_at dksX8_driver_4 17 rfl rfl)
theorem dX8_driver_108 : decode cX8_driver 108 = .ok (.iload_n 2, 1) := dk_28 (dk_at dksX8_driver_4 18 rfl rfl)
theorem dX8_driver_109 : decode cX8_driver 109 = .ok (.iastore, 1) := dk_79 (dk_at dksX8_driver_4 19 rfl rfl)
theorem dX8_driver_110 : decode cX8_driver 110 = .ok (.aload_n 0, 1) := dk_42 (dk_at dksX8_driver_4 20 rfl rfl)
theorem dX8_driver_111 : decode cX8_driver 111 = .ok (.getfield 9, 3) := dk_180 0 9 (dk_at dksX8_driver_4 21 rfl rfl)
theorem dX8_driver_114 : decode cX8_driver 114 = .ok (.iload 5, 2) := dk_21 5 (dk_at dksX8_driver_5 0 rfl rfl)
theorem dX8_driver_116 : decode cX8_driver 116 = .ok (.iconst 2, 1) := dk_5 (dk_at dksX8_driver_5 2 rfl rfl)
theorem dX8_driver_117 : decode cX8_driver 117 = .ok (.iadd, 1) := dk_96 (dk_at dksX8_driver_5 3 rfl rfl)
theorem dX8_driver_118 : decode cX8_driver 118 = .ok (.iload_n 3, 1) := dk_29 (dk_at dksX8_driver_5 4 rfl rfl)
theorem dX8_driver_119 : decode cX8_driver 119 = .ok (.iastore, 1) := dk_79 (dk_at dksX8_driver_5 5 rfl rfl)
theorem dX8_driver_120 : decode cX8_driver 120 = .ok (.aload_n 0, 1) := dk_42 (dk_at dksX8_driver_5 6 rfl rfl)
theorem dX8_driver_121 : decode cX8_driver 121 = .ok (.getfield 9, 3) := dk_180 0 9 (dk_at dksX8_driver_5 7 rfl rfl)
theorem dX8_driver_124 : decode cX8_driver 124 = .ok (.iload 5, 2) := dk_21 5 (dk_at dksX8_driver_5 10 rfl rfl)
theorem dX8_driver_126 : decode cX8_driver 126 = .ok (.iconst 3, 1) := dk_6 (dk_at dksX8_driver_5 12 rfl rfl)
theorem dX8_driver_127 : decode cX8_driver 127 = .ok (.iadd, 1) := dk_96 (dk_at dksX8_driver_5 13 rfl rfl)
theorem dX8_driver_128 : decode cX8_driver 128 = .ok (.iload 4, 2) := dk_21 4 (dk_at dksX8_driver_5 14 rfl rfl)
theorem dX8_driver_130 : decode cX8_driver 130 = .ok (.iastore, 1) := dk_79 (dk_at dksX8_driver_5 16 rfl rfl)
theorem dX8_driver_131 : decode cX8_driver 131 = .ok (.aload_n 0, 1) := dk_42 (dk_at dksX8_driver_5 17 rfl rfl)
theorem dX8_driver_132 : decode cX8_driver 132 = .ok (.getfield 9, 3) := dk_180 0 9 (dk_at dksX8_driver_5 18 rfl rfl)
theorem dX8_driver_135 : decode cX8_driver 135 = .ok (.iconst 1, 1) := dk_4 (dk_at dksX8_driver_5 21 rfl rfl)
theorem dX8_driver_136 : decode cX8_driver 136 = .ok (.dup2, 1) := dk_92 (dk_at dksX8_driver_5 22 rfl rfl)
theorem dX8_driver_137 : decode cX8_driver 137 = .ok (.iaload, 1) := dk_46 (dk_at dksX8_driver_5 23 rfl rfl)
theorem dX8_driver_138 : decode cX8_driver 138 = .ok (.iconst 1, 1) := dk_4 (dk_at dksX8_driver_6 0 rfl rfl)
theorem dX8_driver_139 : decode cX8_driver 139 = .ok (.iadd, 1) := dk_96 (dk_at dksX8_driver_6 1 rfl rfl)
theorem dX8_driver_140 : decode cX8_driver 140 = .ok (.iastore, 1) := dk_79 (dk_at dksX8_driver_6 2 rfl rfl)
theorem dX8_driver_141 : decode cX8_driver 141 = .ok (.aload_n 0, 1) := dk_42 (dk_at dksX8_driver_6 3 rfl rfl)
theorem dX8_driver_142 : decode cX8_driver 142 = .ok (.getfield 9, 3) := dk_180 0 9 (dk_at dksX8_driver_6 4 rfl rfl)
theorem dX8_driver_145 : decode cX8_driver 145 = .ok (.iconst 1, 1) := dk_4 (dk_at dksX8_driver_6 7 rfl rfl)
theorem dX8_driver_146 : decode cX8_driver 146 = .ok (.iaload, 1) := dk_46 (dk_at dksX8_driver_6 8 rfl rfl)
theorem dX8_driver_147 : decode cX8_driver 147 = .ok (.iconst 1, 1) := dk_4 (dk_at dksX8_driver_6 9 rfl rfl)
theorem dX8_driver_148 : decode cX8_driver 148 = .ok (.isub, 1) := dk_100 (dk_at dksX8_driver_6 10 rfl rfl)
theorem dX8_driver_149 : decode cX8_driver 149 = .ok (.ireturn, 1) := dk_172 (dk_at dksX8_driver_6 11 rfl rfl)
abbrev cX8_isStation : ByteArray := prog_29_method_5_code
def yX8_isStation : MethodName := ⟨RX8, "isStation", "(I)Z"⟩
def dkwX8_isStation_0 : List UInt8 := [27, 133, 9, 42, 180, 0, 9, 3, 46, 4, 100, 133, 184, 0, 79, 172]
abbrev dktX8_isStation_0 : List UInt8 := dkwX8_isStation_0 ++ []
theorem dksX8_isStation_0 : cX8_isStation.data.toList.drop 0 = dktX8_isStation_0 := by decide +kernel
theorem dX8_isStation_0 : decode cX8_isStation 0 = .ok (.iload_n 1, 1) := dk_27 (dk_at dksX8_isStation_0 0 rfl rfl)
theorem dX8_isStation_1 : decode cX8_isStation 1 = .ok (.i2l, 1) := dk_133 (dk_at dksX8_isStation_0 1 rfl rfl)
theorem dX8_isStation_2 : decode cX8_isStation 2 = .ok (.lconst 0, 1) := dk_9 (dk_at dksX8_isStation_0 2 rfl rfl)
theorem dX8_isStation_3 : decode cX8_isStation 3 = .ok (.aload_n 0, 1) := dk_42 (dk_at dksX8_isStation_0 3 rfl rfl)
theorem dX8_isStation_4 : decode cX8_isStation 4 = .ok (.getfield 9, 3) := dk_180 0 9 (dk_at dksX8_isStation_0 4 rfl rfl)
theorem dX8_isStation_7 : decode cX8_isStation 7 = .ok (.iconst 0, 1) := dk_3 (dk_at dksX8_isStation_0 7 rfl rfl)
theorem dX8_isStation_8 : decode cX8_isStation 8 = .ok (.iaload, 1) := dk_46 (dk_at dksX8_isStation_0 8 rfl rfl)
theorem dX8_isStation_9 : decode cX8_isStation 9 = .ok (.iconst 1, 1) := dk_4 (dk_at dksX8_isStation_0 9 rfl rfl)
theorem dX8_isStation_10 : decode cX8_isStation 10 = .ok (.isub, 1) := dk_100 (dk_at dksX8_isStation_0 10 rfl rfl)
theorem dX8_isStation_11 : decode cX8_isStation 11 = .ok (.i2l, 1) := dk_133 (dk_at dksX8_isStation_0 11 rfl rfl)
theorem dX8_isStation_12 : decode cX8_isStation 12 = .ok (.invokestatic 79, 3) := dk_184 0 79 (dk_at dksX8_isStation_0 12 rfl rfl)
theorem dX8_isStation_15 : decode cX8_isStation 15 = .ok (.ireturn, 1) := dk_172 (dk_at dksX8_isStation_0 15 rfl rfl)
abbrev cX8_cost : ByteArray := prog_29_method_8_code
def yX8_cost : MethodName := ⟨RX8, "cost", "(II)I"⟩
def dkwX8_cost_3 : List UInt8 := [29, 172]
abbrev dktX8_cost_3 : List UInt8 := dkwX8_cost_3 ++ []
def dkwX8_cost_2 : List UInt8 := [62, 42, 180, 0, 9, 16, 8, 27, 96, 28, 79, 28, 29, 159, 0, 11, 42, 27, 28, 29, 100, 182, 0, 97]
abbrev dktX8_cost_2 : List UInt8 := dkwX8_cost_2 ++ dktX8_cost_3
def dkwX8_cost_1 : List UInt8 := [20, 0, 87, 184, 0, 79, 154, 0, 9, 42, 5, 182, 0, 83, 172, 42, 180, 0, 9, 16, 8, 27, 96, 46]
abbrev dktX8_cost_1 : List UInt8 := dkwX8_cost_1 ++ dktX8_cost_2
def dkwX8_cost_0 : List UInt8 := [42, 3, 181, 0, 76, 42, 27, 182, 0, 91, 154, 0, 9, 42, 4, 182, 0, 83, 172, 28, 133, 9]
abbrev dktX8_cost_0 : List UInt8 := dkwX8_cost_0 ++ dktX8_cost_1
theorem dksX8_cost_0 : cX8_cost.data.toList.drop 0 = dktX8_cost_0 := by decide +kernel
theorem dksX8_cost_1 : cX8_cost.data.toList.drop 22 = dktX8_cost_1 := dk_seg dksX8_cost_0 22 rfl rfl
theorem dksX8_cost_2 : cX8_cost.data.toList.drop 46 = dktX8_cost_2 := dk_seg dksX8_cost_1 24 rfl rfl
theorem dksX8_cost_3 : cX8_cost.data.toList.drop 70 = dktX8_cost_3 := dk_seg dksX8_cost_2 24 rfl rfl
theorem dX8_cost_0 : decode cX8_cost 0 = .ok (.aload_n 0, 1) := dk_42 (dk_at dksX8_cost_0 0 rfl rfl)
theorem dX8_cost_1 : decode cX8_cost 1 = .ok (.iconst 0, 1) := dk_3 (dk_at dksX8_cost_0 1 rfl rfl)
theorem dX8_cost_2 : decode cX8_cost 2 = .ok (.putfield 76, 3) := dk_181 0 76 (dk_at dksX8_cost_0 2 rfl rfl)
theorem dX8_cost_5 : decode cX8_cost 5 = .ok (.aload_n 0, 1) := dk_42 (dk_at dksX8_cost_0 5 rfl rfl)
theorem dX8_cost_6 : decode cX8_cost 6 = .ok (.iload_n 1, 1) := dk_27 (dk_at dksX8_cost_0 6 rfl rfl)
theorem dX8_cost_7 : decode cX8_cost 7 = .ok (.invokevirtual 91, 3) := dk_182 0 91 (dk_at dksX8_cost_0 7 rfl rfl)
theorem dX8_cost_10 : decode cX8_cost 10 = .ok (.ifCond .ne 9, 3) := dk_154 0 9 (dk_at dksX8_cost_0 10 rfl rfl)
theorem dX8_cost_13 : decode cX8_cost 13 = .ok (.aload_n 0, 1) := dk_42 (dk_at dksX8_cost_0 13 rfl rfl)
theorem dX8_cost_14 : decode cX8_cost 14 = .ok (.iconst 1, 1) := dk_4 (dk_at dksX8_cost_0 14 rfl rfl)
theorem dX8_cost_15 : decode cX8_cost 15 = .ok (.invokevirtual 83, 3) := dk_182 0 83 (dk_at dksX8_cost_0 15 rfl rfl)
theorem dX8_cost_18 : decode cX8_cost 18 = .ok (.ireturn, 1) := dk_172 (dk_at dksX8_cost_0 18 rfl rfl)
theorem dX8_cost_19 : decode cX8_cost 19 = .ok (.iload_n 2, 1) := dk_28 (dk_at dksX8_cost_0 19 rfl rfl)
theorem dX8_cost_20 : decode cX8_cost 20 = .ok (.i2l, 1) := dk_133 (dk_at dksX8_cost_0 20 rfl rfl)
theorem dX8_cost_21 : decode cX8_cost 21 = .ok (.lconst 0, 1) := dk_9 (dk_at dksX8_cost_0 21 rfl rfl)
theorem dX8_cost_22 : decode cX8_cost 22 = .ok (.ldc2_w 87, 3) := dk_20 0 87 (dk_at dksX8_cost_1 0 rfl rfl)
theorem dX8_cost_25 : decode cX8_cost 25 = .ok (.invokestatic 79, 3) := dk_184 0 79 (dk_at dksX8_cost_1 3 rfl rfl)
theorem dX8_cost_28 : decode cX8_cost 28 = .ok (.ifCond .ne 9, 3) := dk_154 0 9 (dk_at dksX8_cost_1 6 rfl rfl)
theorem dX8_cost_31 : decode cX8_cost 31 = .ok (.aload_n 0, 1) := dk_42 (dk_at dksX8_cost_1 9 rfl rfl)
theorem dX8_cost_32 : decode cX8_cost 32 = .ok (.iconst 2, 1) := dk_5 (dk_at dksX8_cost_1 10 rfl rfl)
theorem dX8_cost_33 : decode cX8_cost 33 = .ok (.invokevirtual 83, 3) := dk_182 0 83 (dk_at dksX8_cost_1 11 rfl rfl)
theorem dX8_cost_36 : decode cX8_cost 36 = .ok (.ireturn, 1) := dk_172 (dk_at dksX8_cost_1 14 rfl rfl)
theorem dX8_cost_37 : decode cX8_cost 37 = .ok (.aload_n 0, 1) := dk_42 (dk_at dksX8_cost_1 15 rfl rfl)
theorem dX8_cost_38 : decode cX8_cost 38 = .ok (.getfield 9, 3) := dk_180 0 9 (dk_at dksX8_cost_1 16 rfl rfl)
theorem dX8_cost_41 : decode cX8_cost 41 = .ok (.bipush 8, 2) := dk_16 8 (dk_at dksX8_cost_1 19 rfl rfl)
theorem dX8_cost_43 : decode cX8_cost 43 = .ok (.iload_n 1, 1) := dk_27 (dk_at dksX8_cost_1 21 rfl rfl)
theorem dX8_cost_44 : decode cX8_cost 44 = .ok (.iadd, 1) := dk_96 (dk_at dksX8_cost_1 22 rfl rfl)
theorem dX8_cost_45 : decode cX8_cost 45 = .ok (.iaload, 1) := dk_46 (dk_at dksX8_cost_1 23 rfl rfl)
theorem dX8_cost_46 : decode cX8_cost 46 = .ok (.istore_n 3, 1) := dk_62 (dk_at dksX8_cost_2 0 rfl rfl)
theorem dX8_cost_47 : decode cX8_cost 47 = .ok (.aload_n 0, 1) := dk_42 (dk_at dksX8_cost_2 1 rfl rfl)
theorem dX8_cost_48 : decode cX8_cost 48 = .ok (.getfield 9, 3) := dk_180 0 9 (dk_at dksX8_cost_2 2 rfl rfl)
theorem dX8_cost_51 : decode cX8_cost 51 = .ok (.bipush 8, 2) := dk_16 8 (dk_at dksX8_cost_2 5 rfl rfl)
theorem dX8_cost_53 : decode cX8_cost 53 = .ok (.iload_n 1, 1) := dk_27 (dk_at dksX8_cost_2 7 rfl rfl)
theorem dX8_cost_54 : decode cX8_cost 54 = .ok (.iadd, 1) := dk_96 (dk_at dksX8_cost_2 8 rfl rfl)
theorem dX8_cost_55 : decode cX8_cost 55 = .ok (.iload_n 2, 1) := dk_28 (dk_at dksX8_cost_2 9 rfl rfl)
theorem dX8_cost_56 : decode cX8_cost 56 = .ok (.iastore, 1) := dk_79 (dk_at dksX8_cost_2 10 rfl rfl)
theorem dX8_cost_57 : decode cX8_cost 57 = .ok (.iload_n 2, 1) := dk_28 (dk_at dksX8_cost_2 11 rfl rfl)
theorem dX8_cost_58 : decode cX8_cost 58 = .ok (.iload_n 3, 1) := dk_29 (dk_at dksX8_cost_2 12 rfl rfl)
theorem dX8_cost_59 : decode cX8_cost 59 = .ok (.if_icmp .eq 11, 3) := dk_159 0 11 (dk_at dksX8_cost_2 13 rfl rfl)
theorem dX8_cost_62 : decode cX8_cost 62 = .ok (.aload_n 0, 1) := dk_42 (dk_at dksX8_cost_2 16 rfl rfl)
theorem dX8_cost_63 : decode cX8_cost 63 = .ok (.iload_n 1, 1) := dk_27 (dk_at dksX8_cost_2 17 rfl rfl)
theorem dX8_cost_64 : decode cX8_cost 64 = .ok (.iload_n 2, 1) := dk_28 (dk_at dksX8_cost_2 18 rfl rfl)
theorem dX8_cost_65 : decode cX8_cost 65 = .ok (.iload_n 3, 1) := dk_29 (dk_at dksX8_cost_2 19 rfl rfl)
theorem dX8_cost_66 : decode cX8_cost 66 = .ok (.isub, 1) := dk_100 (dk_at dksX8_cost_2 20 rfl rfl)
theorem dX8_cost_67 : decode cX8_cost 67 = .ok (.invokevirtual 97, 3) := dk_182 0 97 (dk_at dksX8_cost_2 21 rfl rfl)
theorem dX8_cost_70 : decode cX8_cost 70 = .ok (.iload_n 3, 1) := dk_29 (dk_at dksX8_cost_3 0 rfl rfl)
theorem dX8_cost_71 : decode cX8_cost 71 = .ok (.ireturn, 1) := dk_172 (dk_at dksX8_cost_3 1 rfl rfl)
abbrev cX8_keepsChange : ByteArray := prog_29_method_9_code
def yX8_keepsChange : MethodName := ⟨RX8, "keepsChange", "(II)V"⟩
def dkwX8_keepsChange_4 : List UInt8 := [29, 5, 96, 28, 79, 42, 180, 0, 9, 16, 6, 92, 46, 4, 96, 79, 177]
abbrev dktX8_keepsChange_4 : List UInt8 := dkwX8_keepsChange_4 ++ []
def dkwX8_keepsChange_3 : List UInt8 := [180, 0, 9, 29, 27, 79, 42, 180, 0, 9, 29, 4, 96, 42, 180, 0, 9, 5, 46, 79, 42, 180, 0, 9]
abbrev dktX8_keepsChange_3 : List UInt8 := dkwX8_keepsChange_3 ++ dktX8_keepsChange_4
def dkwX8_keepsChange_2 : List UInt8 := [16, 6, 92, 46, 4, 100, 79, 17, 12, 77, 6, 42, 180, 0, 9, 16, 6, 46, 104, 96, 62, 42]
abbrev dktX8_keepsChange_2 : List UInt8 := dkwX8_keepsChange_2 ++ dktX8_keepsChange_3
def dkwX8_keepsChange_1 : List UInt8 := [180, 0, 9, 29, 42, 180, 0, 9, 29, 6, 96, 46, 79, 132, 3, 1, 167, 255, 232, 42, 180, 0, 9]
abbrev dktX8_keepsChange_1 : List UInt8 := dkwX8_keepsChange_1 ++ dktX8_keepsChange_2
def dkwX8_keepsChange_0 : List UInt8 := [42, 180, 0, 9, 16, 6, 46, 16, 10, 160, 0, 45, 17, 12, 77, 62, 29, 17, 12, 104, 162, 0, 23, 42]
abbrev dktX8_keepsChange_0 : List UInt8 := dkwX8_keepsChange_0 ++ dktX8_keepsChange_1
theorem dksX8_keepsChange_0 : cX8_keepsChange.data.toList.drop 0 = dktX8_keepsChange_0 := by decide +kernel
theorem dksX8_keepsChange_1 : cX8_keepsChange.data.toList.drop 24 = dktX8_keepsChange_1 := dk_seg dksX8_keepsChange_0 24 rfl rfl
theorem dksX8_keepsChange_2 : cX8_keepsChange.data.toList.drop 47 = dktX8_keepsChange_2 := dk_seg dksX8_keepsChange_1 23 rfl rfl
theorem dksX8_keepsChange_3 : cX8_keepsChange.data.toList.drop 69 = dktX8_keepsChange_3 := dk_seg dksX8_keepsChange_2 22 rfl rfl
theorem dksX8_keepsChange_4 : cX8_keepsChange.data.toList.drop 93 = dktX8_keepsChange_4 := dk_seg dksX8_keepsChange_3 24 rfl rfl
theorem dX8_keepsChange_0 : decode cX8_keepsChange 0 = .ok (.aload_n 0, 1) := dk_42 (dk_at dksX8_keepsChange_0 0 rfl rfl)
theorem dX8_keepsChange_1 : decode cX8_keepsChange 1 = .ok (.getfield 9, 3) := dk_180 0 9 (dk_at dksX8_keepsChange_0 1 rfl rfl)
theorem dX8_keepsChange_4 : decode cX8_keepsChange 4 = .ok (.bipush 6, 2) := dk_16 6 (dk_at dksX8_keepsChange_0 4 rfl rfl)
theorem dX8_keepsChange_6 : decode cX8_keepsChange 6 = .ok (.iaload, 1) := dk_46 (dk_at dksX8_keepsChange_0 6 rfl rfl)
theorem dX8_keepsChange_7 : decode cX8_keepsChange 7 = .ok (.bipush 10, 2) := dk_16 10 (dk_at dksX8_keepsChange_0 7 rfl rfl)
theorem dX8_keepsChange_9 : decode cX8_keepsChange 9 = .ok (.if_icmp .ne 45, 3) := dk_160 0 45 (dk_at dksX8_keepsChange_0 9 rfl rfl)
theorem dX8_keepsChange_12 : decode cX8_keepsChange 12 = .ok (.sipush 3149, 3) := dk_17 12 77 (dk_at dksX8_keepsChange_0 12 rfl rfl)
theorem dX8_keepsChange_15 : decode cX8_keepsChange 15 = .ok (.istore_n 3, 1) := dk_62 (dk_at dksX8_keepsChange_0 15 rfl rfl)
theorem dX8_keepsChange_16 : decode cX8_keepsChange 16 = .ok (.iload_n 3, 1) := dk_29 (dk_at dksX8_keepsChange_0 16 rfl rfl)
theorem dX8_keepsChange_17 : decode cX8_keepsChange 17 = .ok (.sipush 3176, 3) := dk_17 12 104 (dk_at dksX8_keepsChange_0 17 rfl rfl)
theorem dX8_keepsChange_20 : decode cX8_keepsChange 20 = .ok (.if_icmp .ge 23, 3) := dk_162 0 23 (dk_at dksX8_keepsChange_0 20 rfl rfl)
theorem dX8_keepsChange_23 : decode cX8_keepsChange 23 = .ok (.aload_n 0, 1) := dk_42 (dk_at dksX8_keepsChange_0 23 rfl rfl)
theorem dX8_keepsChange_24 : decode cX8_keepsChange 24 = .ok (.getfield 9, 3) := dk_180 0 9 (dk_at dksX8_keepsChange_1 0 rfl rfl)
theorem dX8_keepsChange_27 : decode cX8_keepsChange 27 = .ok (.iload_n 3, 1) := dk_29 (dk_at dksX8_keepsChange_1 3 rfl rfl)
theorem dX8_keepsChange_28 : decode cX8_keepsChange 28 = .ok (.aload_n 0, 1) := dk_42 (dk_at dksX8_keepsChange_1 4 rfl rfl)
theorem dX8_keepsChange_29 : decode cX8_keepsChange 29 = .ok (.getfield 9, 3) := dk_180 0 9 (dk_at dksX8_keepsChange_1 5 rfl rfl)
theorem dX8_keepsChange_32 : decode cX8_keepsChange 32 = .ok (.iload_n 3, 1) := dk_29 (dk_at dksX8_keepsChange_1 8 rfl rfl)
theorem dX8_keepsChange_33 : decode cX8_keepsChange 33 = .ok (.iconst 3, 1) := dk_6 (dk_at dksX8_keepsChange_1 9 rfl rfl)
theorem dX8_keepsChange_34 : decode cX8_keepsChange 34 = .ok (.iadd, 1) := dk_96 (dk_at dksX8_keepsChange_1 10 rfl rfl)
theorem dX8_keepsChange_35 : decode cX8_keepsChange 35 = .ok (.iaload, 1) := dk_46 (dk_at dksX8_keepsChange_1 11 rfl rfl)
theorem dX8_keepsChange_36 : decode cX8_keepsChange 36 = .ok (.iastore, 1) := dk_79 (dk_at dksX8_keepsChange_1 12 rfl rfl)
theorem dX8_keepsChange_37 : decode cX8_keepsChange 37 = .ok (.iinc 3 1, 3) := dk_132 3 1 (dk_at dksX8_keepsChange_1 13 rfl rfl)
theorem dX8_keepsChange_40 : decode cX8_keepsChange 40 = .ok (.goto (-24), 3) := dk_167 255 232 (dk_at dksX8_keepsChange_1 16 rfl rfl)
theorem dX8_keepsChange_43 : decode cX8_keepsChange 43 = .ok (.aload_n 0, 1) := dk_42 (dk_at dksX8_keepsChange_1 19 rfl rfl)
theorem dX8_keepsChange_44 : decode cX8_keepsChange 44 = .ok (.getfield 9, 3) := dk_180 0 9 (dk_at dksX8_keepsChange_1 20 rfl rfl)
theorem dX8_keepsChange_47 : decode cX8_keepsChange 47 = .ok (.bipush 6, 2) := dk_16 6 (dk_at dksX8_keepsChange_2 0 rfl rfl)
theorem dX8_keepsChange_49 : decode cX8_keepsChange 49 = .ok (.dup2, 1) := dk_92 (dk_at dksX8_keepsChange_2 2 rfl rfl)
theorem dX8_keepsChange_50 : decode cX8_keepsChange 50 = .ok (.iaload, 1) := dk_46 (dk_at dksX8_keepsChange_2 3 rfl rfl)
theorem dX8_keepsChange_51 : decode cX8_keepsChange 51 = .ok (.iconst 1, 1) := dk_4 (dk_at dksX8_keepsChange_2 4 rfl rfl)
theorem dX8_keepsChange_52 : decode cX8_keepsChange 52 = .ok (.isub, 1) := dk_100 (dk_at dksX8_keepsChange_2 5 rfl rfl)
theorem dX8_keepsChange_53 : decode cX8_keepsChange 53 = .ok (.iastore, 1) := dk_79 (dk_at dksX8_keepsChange_2 6 rfl rfl)
theorem dX8_keepsChange_54 : decode cX8_keepsChange 54 = .ok (.sipush 3149, 3) := dk_17 12 77 (dk_at dksX8_keepsChange_2 7 rfl rfl)
theorem dX8_keepsChange_57 : decode cX8_keepsChange 57 = .ok (.iconst 3, 1) := dk_6 (dk_at dksX8_keepsChange_2 10 rfl rfl)
theorem dX8_keepsChange_58 : decode cX8_keepsChange 58 = .ok (.aload_n 0, 1) := dk_42 (dk_at dksX8_keepsChange_2 11 rfl rfl)
theorem dX8_keepsChange_59 : decode cX8_keepsChange 59 = .ok (.getfield 9, 3) := dk_180 0 9 (dk_at dksX8_keepsChange_2 12 rfl rfl)
theorem dX8_keepsChange_62 : decode cX8_keepsChange 62 = .ok (.bipush 6, 2) := dk_16 6 (dk_at dksX8_keepsChange_2 15 rfl rfl)
theorem dX8_keepsChange_64 : decode cX8_keepsChange 64 = .ok (.iaload, 1) := dk_46 (dk_at dksX8_keepsChange_2 17 rfl rfl)
theorem dX8_keepsChange_65 : decode cX8_keepsChange 65 = .ok (.imul, 1) := dk_104 (dk_at dksX8_keepsChange_2 18 rfl rfl)
theorem dX8_keepsChange_66 : decode cX8_keepsChange 66 = .ok (.iadd, 1) := dk_96 (dk_at dksX8_keepsChange_2 19 rfl rfl)
theorem dX8_keepsChange_67 : decode cX8_keepsChange 67 = .ok (.istore_n 3, 1) := dk_62 (dk_at dksX8_keepsChange_2 20 rfl rfl)
theorem dX8_keepsChange_68 : decode cX8_keepsChange 68 = .ok (.aload_n 0, 1) := dk_42 (dk_at dksX8_keepsChange_2 21 rfl rfl)
theorem dX8_keepsChange_69 : decode cX8_keepsChange 69 = .ok (.getfield 9, 3) := dk_180 0 9 (dk_at dksX8_keepsChange_3 0 rfl rfl)
theorem dX8_keepsChange_72 : decode cX8_keepsChange 72 = .ok (.iload_n 3, 1) := dk_29 (dk_at dksX8_keepsChange_3 3 rfl rfl)
theorem dX8_keepsChange_73 : decode cX8_keepsChange 73 = .ok (.iload_n 1, 1) := dk_27 (dk_at dksX8_keepsChange_3 4 rfl rfl)
theorem dX8_keepsChange_74 : decode cX8_keepsChange 74 = .ok (.iastore, 1) := dk_79 (dk_at dksX8_keepsChange_3 5 rfl rfl)
theorem dX8_keepsChange_75 : decode cX8_keepsChange 75 = .ok (.aload_n 0, 1) := dk_42 (dk_at dksX8_keepsChange_3 6 rfl rfl)
theorem dX8_keepsChange_76 : decode cX8_keepsChange 76 = .ok (.getfield 9, 3) := dk_180 0 9 (dk_at dksX8_keepsChange_3 7 rfl rfl)
theorem dX8_keepsChange_79 : decode cX8_keepsChange 79 = .ok (.iload_n 3, 1) := dk_29 (dk_at dksX8_keepsChange_3 10 rfl rfl)
theorem dX8_keepsChange_80 : decode cX8_keepsChange 80 = .ok (.iconst 1, 1) := dk_4 (dk_at dksX8_keepsChange_3 11 rfl rfl)
theorem dX8_keepsChange_81 : decode cX8_keepsChange 81 = .ok (.iadd, 1) := dk_96 (dk_at dksX8_keepsChange_3 12 rfl rfl)
theorem dX8_keepsChange_82 : decode cX8_keepsChange 82 = .ok (.aload_n 0, 1) := dk_42 (dk_at dksX8_keepsChange_3 13 rfl rfl)
theorem dX8_keepsChange_83 : decode cX8_keepsChange 83 = .ok (.getfield 9, 3) := dk_180 0 9 (dk_at dksX8_keepsChange_3 14 rfl rfl)
theorem dX8_keepsChange_86 : decode cX8_keepsChange 86 = .ok (.iconst 2, 1) := dk_5 (dk_at dksX8_keepsChange_3 17 rfl rfl)
theorem dX8_keepsChange_87 : decode cX8_keepsChange 87 = .ok (.iaload, 1) := dk_46 (dk_at dksX8_keepsChange_3 18 rfl rfl)
theorem dX8_keepsChange_88 : decode cX8_keepsChange 88 = .ok (.iastore, 1) := dk_79 (dk_at dksX8_keepsChange_3 19 rfl rfl)
theorem dX8_keepsChange_89 : decode cX8_keepsChange 89 = .ok (.aload_n 0, 1) := dk_42 (dk_at dksX8_keepsChange_3 20 rfl rfl)
theorem dX8_keepsChange_90 : decode cX8_keepsChange 90 = .ok (.getfield 9, 3) := dk_180 0 9 (dk_at dksX8_keepsChange_3 21 rfl rfl)
theorem dX8_keepsChange_93 : decode cX8_keepsChange 93 = .ok (.iload_n 3, 1) := dk_29 (dk_at dksX8_keepsChange_4 0 rfl rfl)
theorem dX8_keepsChange_94 : decode cX8_keepsChange 94 = .ok (.iconst 2, 1) := dk_5 (dk_at dksX8_keepsChange_4 1 rfl rfl)
theorem dX8_keepsChange_95 : decode cX8_keepsChange 95 = .ok (.iadd, 1) := dk_96 (dk_at dksX8_keepsChange_4 2 rfl rfl)
theorem dX8_keepsChange_96 : decode cX8_keepsChange 96 = .ok (.iload_n 2, 1) := dk_28 (dk_at dksX8_keepsChange_4 3 rfl rfl)
theorem dX8_keepsChange_97 : decode cX8_keepsChange 97 = .ok (.iastore, 1) := dk_79 (dk_at dksX8_keepsChange_4 4 rfl rfl)
theorem dX8_keepsChange_98 : decode cX8_keepsChange 98 = .ok (.aload_n 0, 1) := dk_42 (dk_at dksX8_keepsChange_4 5 rfl rfl)
theorem dX8_keepsChange_99 : decode cX8_keepsChange 99 = .ok (.getfield 9, 3) := dk_180 0 9 (dk_at dksX8_keepsChange_4 6 rfl rfl)
theorem dX8_keepsChange_102 : decode cX8_keepsChange 102 = .ok (.bipush 6, 2) := dk_16 6 (dk_at dksX8_keepsChange_4 9 rfl rfl)
theorem dX8_keepsChange_104 : decode cX8_keepsChange 104 = .ok (.dup2, 1) := dk_92 (dk_at dksX8_keepsChange_4 11 rfl rfl)
theorem dX8_keepsChange_105 : decode cX8_keepsChange 105 = .ok (.iaload, 1) := dk_46 (dk_at dksX8_keepsChange_4 12 rfl rfl)
theorem dX8_keepsChange_106 : decode cX8_keepsChange 106 = .ok (.iconst 1, 1) := dk_4 (dk_at dksX8_keepsChange_4 13 rfl rfl)
theorem dX8_keepsChange_107 : decode cX8_keepsChange 107 = .ok (.iadd, 1) := dk_96 (dk_at dksX8_keepsChange_4 14 rfl rfl)
theorem dX8_keepsChange_108 : decode cX8_keepsChange 108 = .ok (.iastore, 1) := dk_79 (dk_at dksX8_keepsChange_4 15 rfl rfl)
theorem dX8_keepsChange_109 : decode cX8_keepsChange 109 = .ok (.return_, 1) := dk_177 (dk_at dksX8_keepsChange_4 16 rfl rfl)
abbrev cX8_late : ByteArray := prog_29_method_10_code
def yX8_late : MethodName := ⟨RX8, "late", "(II)I"⟩
def dkwX8_late_2 : List UInt8 := [62, 42, 180, 0, 9, 16, 16, 27, 96, 28, 79, 29, 172]
abbrev dktX8_late_2 : List UInt8 := dkwX8_late_2 ++ []
def dkwX8_late_1 : List UInt8 := [20, 0, 89, 184, 0, 79, 154, 0, 9, 42, 5, 182, 0, 83, 172, 42, 180, 0, 9, 16, 16, 27, 96, 46]
abbrev dktX8_late_1 : List UInt8 := dkwX8_late_1 ++ dktX8_late_2
def dkwX8_late_0 : List UInt8 := [42, 3, 181, 0, 76, 42, 27, 182, 0, 91, 154, 0, 9, 42, 4, 182, 0, 83, 172, 28, 133, 9]
abbrev dktX8_late_0 : List UInt8 := dkwX8_late_0 ++ dktX8_late_1
theorem dksX8_late_0 : cX8_late.data.toList.drop 0 = dktX8_late_0 := by decide +kernel
theorem dksX8_late_1 : cX8_late.data.toList.drop 22 = dktX8_late_1 := dk_seg dksX8_late_0 22 rfl rfl
theorem dksX8_late_2 : cX8_late.data.toList.drop 46 = dktX8_late_2 := dk_seg dksX8_late_1 24 rfl rfl
theorem dX8_late_0 : decode cX8_late 0 = .ok (.aload_n 0, 1) := dk_42 (dk_at dksX8_late_0 0 rfl rfl)
theorem dX8_late_1 : decode cX8_late 1 = .ok (.iconst 0, 1) := dk_3 (dk_at dksX8_late_0 1 rfl rfl)
theorem dX8_late_2 : decode cX8_late 2 = .ok (.putfield 76, 3) := dk_181 0 76 (dk_at dksX8_late_0 2 rfl rfl)
theorem dX8_late_5 : decode cX8_late 5 = .ok (.aload_n 0, 1) := dk_42 (dk_at dksX8_late_0 5 rfl rfl)
theorem dX8_late_6 : decode cX8_late 6 = .ok (.iload_n 1, 1) := dk_27 (dk_at dksX8_late_0 6 rfl rfl)
theorem dX8_late_7 : decode cX8_late 7 = .ok (.invokevirtual 91, 3) := dk_182 0 91 (dk_at dksX8_late_0 7 rfl rfl)
theorem dX8_late_10 : decode cX8_late 10 = .ok (.ifCond .ne 9, 3) := dk_154 0 9 (dk_at dksX8_late_0 10 rfl rfl)
theorem dX8_late_13 : decode cX8_late 13 = .ok (.aload_n 0, 1) := dk_42 (dk_at dksX8_late_0 13 rfl rfl)
theorem dX8_late_14 : decode cX8_late 14 = .ok (.iconst 1, 1) := dk_4 (dk_at dksX8_late_0 14 rfl rfl)
theorem dX8_late_15 : decode cX8_late 15 = .ok (.invokevirtual 83, 3) := dk_182 0 83 (dk_at dksX8_late_0 15 rfl rfl)
theorem dX8_late_18 : decode cX8_late 18 = .ok (.ireturn, 1) := dk_172 (dk_at dksX8_late_0 18 rfl rfl)
theorem dX8_late_19 : decode cX8_late 19 = .ok (.iload_n 2, 1) := dk_28 (dk_at dksX8_late_0 19 rfl rfl)
theorem dX8_late_20 : decode cX8_late 20 = .ok (.i2l, 1) := dk_133 (dk_at dksX8_late_0 20 rfl rfl)
theorem dX8_late_21 : decode cX8_late 21 = .ok (.lconst 0, 1) := dk_9 (dk_at dksX8_late_0 21 rfl rfl)
theorem dX8_late_22 : decode cX8_late 22 = .ok (.ldc2_w 89, 3) := dk_20 0 89 (dk_at dksX8_late_1 0 rfl rfl)
theorem dX8_late_25 : decode cX8_late 25 = .ok (.invokestatic 79, 3) := dk_184 0 79 (dk_at dksX8_late_1 3 rfl rfl)
theorem dX8_late_28 : decode cX8_late 28 = .ok (.ifCond .ne 9, 3) := dk_154 0 9 (dk_at dksX8_late_1 6 rfl rfl)
theorem dX8_late_31 : decode cX8_late 31 = .ok (.aload_n 0, 1) := dk_42 (dk_at dksX8_late_1 9 rfl rfl)
theorem dX8_late_32 : decode cX8_late 32 = .ok (.iconst 2, 1) := dk_5 (dk_at dksX8_late_1 10 rfl rfl)
theorem dX8_late_33 : decode cX8_late 33 = .ok (.invokevirtual 83, 3) := dk_182 0 83 (dk_at dksX8_late_1 11 rfl rfl)
theorem dX8_late_36 : decode cX8_late 36 = .ok (.ireturn, 1) := dk_172 (dk_at dksX8_late_1 14 rfl rfl)
theorem dX8_late_37 : decode cX8_late 37 = .ok (.aload_n 0, 1) := dk_42 (dk_at dksX8_late_1 15 rfl rfl)
theorem dX8_late_38 : decode cX8_late 38 = .ok (.getfield 9, 3) := dk_180 0 9 (dk_at dksX8_late_1 16 rfl rfl)
theorem dX8_late_41 : decode cX8_late 41 = .ok (.bipush 16, 2) := dk_16 16 (dk_at dksX8_late_1 19 rfl rfl)
theorem dX8_late_43 : decode cX8_late 43 = .ok (.iload_n 1, 1) := dk_27 (dk_at dksX8_late_1 21 rfl rfl)
theorem dX8_late_44 : decode cX8_late 44 = .ok (.iadd, 1) := dk_96 (dk_at dksX8_late_1 22 rfl rfl)
theorem dX8_late_45 : decode cX8_late 45 = .ok (.iaload, 1) := dk_46 (dk_at dksX8_late_1 23 rfl rfl)
theorem dX8_late_46 : decode cX8_late 46 = .ok (.istore_n 3, 1) := dk_62 (dk_at dksX8_late_2 0 rfl rfl)
theorem dX8_late_47 : decode cX8_late 47 = .ok (.aload_n 0, 1) := dk_42 (dk_at dksX8_late_2 1 rfl rfl)
theorem dX8_late_48 : decode cX8_late 48 = .ok (.getfield 9, 3) := dk_180 0 9 (dk_at dksX8_late_2 2 rfl rfl)
theorem dX8_late_51 : decode cX8_late 51 = .ok (.bipush 16, 2) := dk_16 16 (dk_at dksX8_late_2 5 rfl rfl)
theorem dX8_late_53 : decode cX8_late 53 = .ok (.iload_n 1, 1) := dk_27 (dk_at dksX8_late_2 7 rfl rfl)
theorem dX8_late_54 : decode cX8_late 54 = .ok (.iadd, 1) := dk_96 (dk_at dksX8_late_2 8 rfl rfl)
theorem dX8_late_55 : decode cX8_late 55 = .ok (.iload_n 2, 1) := dk_28 (dk_at dksX8_late_2 9 rfl rfl)
theorem dX8_late_56 : decode cX8_late 56 = .ok (.iastore, 1) := dk_79 (dk_at dksX8_late_2 10 rfl rfl)
theorem dX8_late_57 : decode cX8_late 57 = .ok (.iload_n 3, 1) := dk_29 (dk_at dksX8_late_2 11 rfl rfl)
theorem dX8_late_58 : decode cX8_late 58 = .ok (.ireturn, 1) := dk_172 (dk_at dksX8_late_2 12 rfl rfl)
abbrev cX8_feed : ByteArray := prog_29_method_11_code
def yX8_feed : MethodName := ⟨RX8, "feed", "(IIIII)I"⟩
def dkwX8_feed_5 : List UInt8 := [167, 255, 162, 42, 180, 0, 101, 172]
abbrev dktX8_feed_5 : List UInt8 := dkwX8_feed_5 ++ []
def dkwX8_feed_4 : List UInt8 := [126, 104, 100, 124, 17, 0, 255, 126, 79, 42, 89, 180, 0, 101, 4, 96, 181, 0, 101, 132, 6, 1]
abbrev dktX8_feed_4 : List UInt8 := dkwX8_feed_4 ++ dktX8_feed_5
def dkwX8_feed_3 : List UInt8 := [167, 0, 5, 21, 5, 54, 7, 42, 180, 0, 27, 42, 180, 0, 101, 21, 7, 16, 24, 16, 8, 21, 6, 6]
abbrev dktX8_feed_3 : List UInt8 := dkwX8_feed_3 ++ dktX8_feed_4
def dkwX8_feed_2 : List UInt8 := [28, 167, 0, 28, 21, 6, 16, 12, 162, 0, 7, 29, 167, 0, 17, 21, 6, 16, 16, 162, 0, 8, 21, 4]
abbrev dktX8_feed_2 : List UInt8 := dkwX8_feed_2 ++ dktX8_feed_3
def dkwX8_feed_1 : List UInt8 := [21, 6, 16, 20, 162, 0, 93, 21, 6, 7, 162, 0, 7, 27, 167, 0, 39, 21, 6, 16, 8, 162, 0, 7]
abbrev dktX8_feed_1 : List UInt8 := dkwX8_feed_1 ++ dktX8_feed_2
def dkwX8_feed_0 : List UInt8 := [42, 3, 181, 0, 76, 42, 180, 0, 101, 16, 20, 96, 17, 1, 144, 164, 0, 5, 2, 172, 3, 54, 6]
abbrev dktX8_feed_0 : List UInt8 := dkwX8_feed_0 ++ dktX8_feed_1
theorem dksX8_feed_0 : cX8_feed.data.toList.drop 0 = dktX8_feed_0 := by decide +kernel
theorem dksX8_feed_1 : cX8_feed.data.toList.drop 23 = dktX8_feed_1 := dk_seg dksX8_feed_0 23 rfl rfl
theorem dksX8_feed_2 : cX8_feed.data.toList.drop 47 = dktX8_feed_2 := dk_seg dksX8_feed_1 24 rfl rfl
theorem dksX8_feed_3 : cX8_feed.data.toList.drop 71 = dktX8_feed_3 := dk_seg dksX8_feed_2 24 rfl rfl
theorem dksX8_feed_4 : cX8_feed.data.toList.drop 95 = dktX8_feed_4 := dk_seg dksX8_feed_3 24 rfl rfl
theorem dksX8_feed_5 : cX8_feed.data.toList.drop 117 = dktX8_feed_5 := dk_seg dksX8_feed_4 22 rfl rfl
theorem dX8_feed_0 : decode cX8_feed 0 = .ok (.aload_n 0, 1) := dk_42 (dk_at dksX8_feed_0 0 rfl rfl)
theorem dX8_feed_1 : decode cX8_feed 1 = .ok (.iconst 0, 1) := dk_3 (dk_at dksX8_feed_0 1 rfl rfl)
theorem dX8_feed_2 : decode cX8_feed 2 = .ok (.putfield 76, 3) := dk_181 0 76 (dk_at dksX8_feed_0 2 rfl rfl)
theorem dX8_feed_5 : decode cX8_feed 5 = .ok (.aload_n 0, 1) := dk_42 (dk_at dksX8_feed_0 5 rfl rfl)
theorem dX8_feed_6 : decode cX8_feed 6 = .ok (.getfield 101, 3) := dk_180 0 101 (dk_at dksX8_feed_0 6 rfl rfl)
theorem dX8_feed_9 : decode cX8_feed 9 = .ok (.bipush 20, 2) := dk_16 20 (dk_at dksX8_feed_0 9 rfl rfl)
theorem dX8_feed_11 : decode cX8_feed 11 = .ok (.iadd, 1) := dk_96 (dk_at dksX8_feed_0 11 rfl rfl)
theorem dX8_feed_12 : decode cX8_feed 12 = .ok (.sipush 400, 3) := dk_17 1 144 (dk_at dksX8_feed_0 12 rfl rfl)
theorem dX8_feed_15 : decode cX8_feed 15 = .ok (.if_icmp .le 5, 3) := dk_164 0 5 (dk_at dksX8_feed_0 15 rfl rfl)
theorem dX8_feed_18 : decode cX8_feed 18 = .ok (.iconst (-1), 1) := dk_2 (dk_at dksX8_feed_0 18 rfl rfl)
theorem dX8_feed_19 : decode cX8_feed 19 = .ok (.ireturn, 1) := dk_172 (dk_at dksX8_feed_0 19 rfl rfl)
theorem dX8_feed_20 : decode cX8_feed 20 = .ok (.iconst 0, 1) := dk_3 (dk_at dksX8_feed_0 20 rfl rfl)
theorem dX8_feed_21 : decode cX8_feed 21 = .ok (.istore 6, 2) := dk_54 6 (dk_at dksX8_feed_0 21 rfl rfl)
theorem dX8_feed_23 : decode cX8_feed 23 = .ok (.iload 6, 2) := dk_21 6 (dk_at dksX8_feed_1 0 rfl rfl)
theorem dX8_feed_25 : decode cX8_feed 25 = .ok (.bipush 20, 2) := dk_16 20 (dk_at dksX8_feed_1 2 rfl rfl)
theorem dX8_feed_27 : decode cX8_feed 27 = .ok (.if_icmp .ge 93, 3) := dk_162 0 93 (dk_at dksX8_feed_1 4 rfl rfl)
theorem dX8_feed_30 : decode cX8_feed 30 = .ok (.iload 6, 2) := dk_21 6 (dk_at dksX8_feed_1 7 rfl rfl)
theorem dX8_feed_32 : decode cX8_feed 32 = .ok (.iconst 4, 1) := dk_7 (dk_at dksX8_feed_1 9 rfl rfl)
theorem dX8_feed_33 : decode cX8_feed 33 = .ok (.if_icmp .ge 7, 3) := dk_162 0 7 (dk_at dksX8_feed_1 10 rfl rfl)
theorem dX8_feed_36 : decode cX8_feed 36 = .ok (.iload_n 1, 1) := dk_27 (dk_at dksX8_feed_1 13 rfl rfl)
theorem dX8_feed_37 : decode cX8_feed 37 = .ok (.goto 39, 3) := dk_167 0 39 (dk_at dksX8_feed_1 14 rfl rfl)
theorem dX8_feed_40 : decode cX8_feed 40 = .ok (.iload 6, 2) := dk_21 6 (dk_at dksX8_feed_1 17 rfl rfl)
theorem dX8_feed_42 : decode cX8_feed 42 = .ok (.bipush 8, 2) := dk_16 8 (dk_at dksX8_feed_1 19 rfl rfl)
theorem dX8_feed_44 : decode cX8_feed 44 = .ok (.if_icmp .ge 7, 3) := dk_162 0 7 (dk_at dksX8_feed_1 21 rfl rfl)
theorem dX8_feed_47 : decode cX8_feed 47 = .ok (.iload_n 2, 1) := dk_28 (dk_at dksX8_feed_2 0 rfl rfl)
theorem dX8_feed_48 : decode cX8_feed 48 = .ok (.goto 28, 3) := dk_167 0 28 (dk_at dksX8_feed_2 1 rfl rfl)
theorem dX8_feed_51 : decode cX8_feed 51 = .ok (.iload 6, 2) := dk_21 6 (dk_at dksX8_feed_2 4 rfl rfl)
theorem dX8_feed_53 : decode cX8_feed 53 = .ok (.bipush 12, 2) := dk_16 12 (dk_at dksX8_feed_2 6 rfl rfl)
theorem dX8_feed_55 : decode cX8_feed 55 = .ok (.if_icmp .ge 7, 3) := dk_162 0 7 (dk_at dksX8_feed_2 8 rfl rfl)
theorem dX8_feed_58 : decode cX8_feed 58 = .ok (.iload_n 3, 1) := dk_29 (dk_at dksX8_feed_2 11 rfl rfl)
theorem dX8_feed_59 : decode cX8_feed 59 = .ok (.goto 17, 3) := dk_167 0 17 (dk_at dksX8_feed_2 12 rfl rfl)
theorem dX8_feed_62 : decode cX8_feed 62 = .ok (.iload 6, 2) := dk_21 6 (dk_at dksX8_feed_2 15 rfl rfl)
theorem dX8_feed_64 : decode cX8_feed 64 = .ok (.bipush 16, 2) := dk_16 16 (dk_at dksX8_feed_2 17 rfl rfl)
theorem dX8_feed_66 : decode cX8_feed 66 = .ok (.if_icmp .ge 8, 3) := dk_162 0 8 (dk_at dksX8_feed_2 19 rfl rfl)
theorem dX8_feed_69 : decode cX8_feed 69 = .ok (.iload 4, 2) := dk_21 4 (dk_at dksX8_feed_2 22 rfl rfl)
theorem dX8_feed_71 : decode cX8_feed 71 = .ok (.goto 5, 3) := dk_167 0 5 (dk_at dksX8_feed_3 0 rfl rfl)
theorem dX8_feed_74 : decode cX8_feed 74 = .ok (.iload 5, 2) := dk_21 5 (dk_at dksX8_feed_3 3 rfl rfl)
theorem dX8_feed_76 : decode cX8_feed 76 = .ok (.istore 7, 2) := dk_54 7 (dk_at dksX8_feed_3 5 rfl rfl)
theorem dX8_feed_78 : decode cX8_feed 78 = .ok (.aload_n 0, 1) := dk_42 (dk_at dksX8_feed_3 7 rfl rfl)
theorem dX8_feed_79 : decode cX8_feed 79 = .ok (.getfield 27, 3) := dk_180 0 27 (dk_at dksX8_feed_3 8 rfl rfl)
theorem dX8_feed_82 : decode cX8_feed 82 = .ok (.aload_n 0, 1) := dk_42 (dk_at dksX8_feed_3 11 rfl rfl)
theorem dX8_feed_83 : decode cX8_feed 83 = .ok (.getfield 101, 3) := dk_180 0 101 (dk_at dksX8_feed_3 12 rfl rfl)
theorem dX8_feed_86 : decode cX8_feed 86 = .ok (.iload 7, 2) := dk_21 7 (dk_at dksX8_feed_3 15 rfl rfl)
theorem dX8_feed_88 : decode cX8_feed 88 = .ok (.bipush 24, 2) := dk_16 24 (dk_at dksX8_feed_3 17 rfl rfl)
theorem dX8_feed_90 : decode cX8_feed 90 = .ok (.bipush 8, 2) := dk_16 8 (dk_at dksX8_feed_3 19 rfl rfl)
theorem dX8_feed_92 : decode cX8_feed 92 = .ok (.iload 6, 2) := dk_21 6 (dk_at dksX8_feed_3 21 rfl rfl)
theorem dX8_feed_94 : decode cX8_feed 94 = .ok (.iconst 3, 1) := dk_6 (dk_at dksX8_feed_3 23 rfl rfl)
theorem dX8_feed_95 : decode cX8_feed 95 = .ok (.iand, 1) := dk_126 (dk_at dksX8_feed_4 0 rfl rfl)
theorem dX8_feed_96 : decode cX8_feed 96 = .ok (.imul, 1) := dk_104 (dk_at dksX8_feed_4 1 rfl rfl)
theorem dX8_feed_97 : decode cX8_feed 97 = .ok (.isub, 1) := dk_100 (dk_at dksX8_feed_4 2 rfl rfl)
theorem dX8_feed_98 : decode cX8_feed 98 = .ok (.iushr, 1) := dk_124 (dk_at dksX8_feed_4 3 rfl rfl)
theorem dX8_feed_99 : decode cX8_feed 99 = .ok (.sipush 255, 3) := dk_17 0 255 (dk_at dksX8_feed_4 4 rfl rfl)
theorem dX8_feed_102 : decode cX8_feed 102 = .ok (.iand, 1) := dk_126 (dk_at dksX8_feed_4 7 rfl rfl)
theorem dX8_feed_103 : decode cX8_feed 103 = .ok (.iastore, 1) := dk_79 (dk_at dksX8_feed_4 8 rfl rfl)
theorem dX8_feed_104 : decode cX8_feed 104 = .ok (.aload_n 0, 1) := dk_42 (dk_at dksX8_feed_4 9 rfl rfl)
theorem dX8_feed_105 : decode cX8_feed 105 = .ok (.dup, 1) := dk_89 (dk_at dksX8_feed_4 10 rfl rfl)
theorem dX8_feed_106 : decode cX8_feed 106 = .ok (.getfield 101, 3) := dk_180 0 101 (dk_at dksX8_feed_4 11 rfl rfl)
theorem dX8_feed_109 : decode cX8_feed 109 = .ok (.iconst 1, 1) := dk_4 (dk_at dksX8_feed_4 14 rfl rfl)
theorem dX8_feed_110 : decode cX8_feed 110 = .ok (.iadd, 1) := dk_96 (dk_at dksX8_feed_4 15 rfl rfl)
theorem dX8_feed_111 : decode cX8_feed 111 = .ok (.putfield 101, 3) := dk_181 0 101 (dk_at dksX8_feed_4 16 rfl rfl)
theorem dX8_feed_114 : decode cX8_feed 114 = .ok (.iinc 6 1, 3) := dk_132 6 1 (dk_at dksX8_feed_4 19 rfl rfl)
theorem dX8_feed_117 : decode cX8_feed 117 = .ok (.goto (-94), 3) := dk_167 255 162 (dk_at dksX8_feed_5 0 rfl rfl)
theorem dX8_feed_120 : decode cX8_feed 120 = .ok (.aload_n 0, 1) := dk_42 (dk_at dksX8_feed_5 3 rfl rfl)
theorem dX8_feed_121 : decode cX8_feed 121 = .ok (.getfield 101, 3) := dk_180 0 101 (dk_at dksX8_feed_5 4 rfl rfl)
theorem dX8_feed_124 : decode cX8_feed 124 = .ok (.ireturn, 1) := dk_172 (dk_at dksX8_feed_5 7 rfl rfl)
abbrev cX8_rules : ByteArray := prog_29_method_32_code
def yX8_rules : MethodName := ⟨RX8, "rules", "(II)I"⟩
def dkwX8_rules_5 : List UInt8 := [132, 3, 1, 167, 255, 224, 42, 42, 180, 0, 30, 3, 46, 182, 0, 245, 172]
abbrev dktX8_rules_5 : List UInt8 := dkwX8_rules_5 ++ []
def dkwX8_rules_4 : List UInt8 := [162, 0, 30, 42, 180, 0, 9, 16, 125, 17, 1, 184, 27, 104, 96, 29, 96, 42, 180, 0, 30, 29, 46, 79]
abbrev dktX8_rules_4 : List UInt8 := dkwX8_rules_4 ++ dktX8_rules_5
def dkwX8_rules_3 : List UInt8 := [153, 0, 10, 42, 182, 0, 242, 167, 255, 238, 42, 180, 0, 134, 154, 0, 40, 3, 62, 29, 42, 180, 0, 160]
abbrev dktX8_rules_3 : List UInt8 := dkwX8_rules_3 ++ dktX8_rules_4
def dkwX8_rules_2 : List UInt8 := [180, 0, 30, 3, 3, 79, 42, 4, 181, 0, 160, 42, 180, 0, 134, 154, 0, 17, 42, 180, 0, 116]
abbrev dktX8_rules_2 : List UInt8 := dkwX8_rules_2 ++ dktX8_rules_3
def dkwX8_rules_1 : List UInt8 := [180, 0, 101, 133, 184, 0, 79, 154, 0, 9, 42, 5, 182, 0, 83, 172, 42, 28, 182, 0, 239, 42]
abbrev dktX8_rules_1 : List UInt8 := dkwX8_rules_1 ++ dktX8_rules_2
def dkwX8_rules_0 : List UInt8 := [42, 3, 181, 0, 76, 42, 27, 182, 0, 91, 154, 0, 9, 42, 4, 182, 0, 83, 172, 28, 133, 9, 42]
abbrev dktX8_rules_0 : List UInt8 := dkwX8_rules_0 ++ dktX8_rules_1
theorem dksX8_rules_0 : cX8_rules.data.toList.drop 0 = dktX8_rules_0 := by decide +kernel
theorem dksX8_rules_1 : cX8_rules.data.toList.drop 23 = dktX8_rules_1 := dk_seg dksX8_rules_0 23 rfl rfl
theorem dksX8_rules_2 : cX8_rules.data.toList.drop 45 = dktX8_rules_2 := dk_seg dksX8_rules_1 22 rfl rfl
theorem dksX8_rules_3 : cX8_rules.data.toList.drop 67 = dktX8_rules_3 := dk_seg dksX8_rules_2 22 rfl rfl
theorem dksX8_rules_4 : cX8_rules.data.toList.drop 91 = dktX8_rules_4 := dk_seg dksX8_rules_3 24 rfl rfl
theorem dksX8_rules_5 : cX8_rules.data.toList.drop 115 = dktX8_rules_5 := dk_seg dksX8_rules_4 24 rfl rfl
theorem dX8_rules_0 : decode cX8_rules 0 = .ok (.aload_n 0, 1) := dk_42 (dk_at dksX8_rules_0 0 rfl rfl)
theorem dX8_rules_1 : decode cX8_rules 1 = .ok (.iconst 0, 1) := dk_3 (dk_at dksX8_rules_0 1 rfl rfl)
theorem dX8_rules_2 : decode cX8_rules 2 = .ok (.putfield 76, 3) := dk_181 0 76 (dk_at dksX8_rules_0 2 rfl rfl)
theorem dX8_rules_5 : decode cX8_rules 5 = .ok (.aload_n 0, 1) := dk_42 (dk_at dksX8_rules_0 5 rfl rfl)
theorem dX8_rules_6 : decode cX8_rules 6 = .ok (.iload_n 1, 1) := dk_27 (dk_at dksX8_rules_0 6 rfl rfl)
theorem dX8_rules_7 : decode cX8_rules 7 = .ok (.invokevirtual 91, 3) := dk_182 0 91 (dk_at dksX8_rules_0 7 rfl rfl)
theorem dX8_rules_10 : decode cX8_rules 10 = .ok (.ifCond .ne 9, 3) := dk_154 0 9 (dk_at dksX8_rules_0 10 rfl rfl)
theorem dX8_rules_13 : decode cX8_rules 13 = .ok (.aload_n 0, 1) := dk_42 (dk_at dksX8_rules_0 13 rfl rfl)
theorem dX8_rules_14 : decode cX8_rules 14 = .ok (.iconst 1, 1) := dk_4 (dk_at dksX8_rules_0 14 rfl rfl)
theorem dX8_rules_15 : decode cX8_rules 15 = .ok (.invokevirtual 83, 3) := dk_182 0 83 (dk_at dksX8_rules_0 15 rfl rfl)
theorem dX8_rules_18 : decode cX8_rules 18 = .ok (.ireturn, 1) := dk_172 (dk_at dksX8_rules_0 18 rfl rfl)
theorem dX8_rules_19 : decode cX8_rules 19 = .ok (.iload_n 2, 1) := dk_28 (dk_at dksX8_rules_0 19 rfl rfl)
theorem dX8_rules_20 : decode cX8_rules 20 = .ok (.i2l, 1) := dk_133 (dk_at dksX8_rules_0 20 rfl rfl)
theorem dX8_rules_21 : decode cX8_rules 21 = .ok (.lconst 0, 1) := dk_9 (dk_at dksX8_rules_0 21 rfl rfl)
theorem dX8_rules_22 : decode cX8_rules 22 = .ok (.aload_n 0, 1) := dk_42 (dk_at dksX8_rules_0 22 rfl rfl)
theorem dX8_rules_23 : decode cX8_rules 23 = .ok (.getfield 101, 3) := dk_180 0 101 (dk_at dksX8_rules_1 0 rfl rfl)
theorem dX8_rules_26 : decode cX8_rules 26 = .ok (.i2l, 1) := dk_133 (dk_at dksX8_rules_1 3 rfl rfl)
theorem dX8_rules_27 : decode cX8_rules 27 = .ok (.invokestatic 79, 3) := dk_184 0 79 (dk_at dksX8_rules_1 4 rfl rfl)
theorem dX8_rules_30 : decode cX8_rules 30 = .ok (.ifCond .ne 9, 3) := dk_154 0 9 (dk_at dksX8_rules_1 7 rfl rfl)
theorem dX8_rules_33 : decode cX8_rules 33 = .ok (.aload_n 0, 1) := dk_42 (dk_at dksX8_rules_1 10 rfl rfl)
theorem dX8_rules_34 : decode cX8_rules 34 = .ok (.iconst 2, 1) := dk_5 (dk_at dksX8_rules_1 11 rfl rfl)
theorem dX8_rules_35 : decode cX8_rules 35 = .ok (.invokevirtual 83, 3) := dk_182 0 83 (dk_at dksX8_rules_1 12 rfl rfl)
theorem dX8_rules_38 : decode cX8_rules 38 = .ok (.ireturn, 1) := dk_172 (dk_at dksX8_rules_1 15 rfl rfl)
theorem dX8_rules_39 : decode cX8_rules 39 = .ok (.aload_n 0, 1) := dk_42 (dk_at dksX8_rules_1 16 rfl rfl)
theorem dX8_rules_40 : decode cX8_rules 40 = .ok (.iload_n 2, 1) := dk_28 (dk_at dksX8_rules_1 17 rfl rfl)
theorem dX8_rules_41 : decode cX8_rules 41 = .ok (.invokevirtual 239, 3) := dk_182 0 239 (dk_at dksX8_rules_1 18 rfl rfl)
theorem dX8_rules_44 : decode cX8_rules 44 = .ok (.aload_n 0, 1) := dk_42 (dk_at dksX8_rules_1 21 rfl rfl)
theorem dX8_rules_45 : decode cX8_rules 45 = .ok (.getfield 30, 3) := dk_180 0 30 (dk_at dksX8_rules_2 0 rfl rfl)
theorem dX8_rules_48 : decode cX8_rules 48 = .ok (.iconst 0, 1) := dk_3 (dk_at dksX8_rules_2 3 rfl rfl)
theorem dX8_rules_49 : decode cX8_rules 49 = .ok (.iconst 0, 1) := dk_3 (dk_at dksX8_rules_2 4 rfl rfl)
theorem dX8_rules_50 : decode cX8_rules 50 = .ok (.iastore, 1) := dk_79 (dk_at dksX8_rules_2 5 rfl rfl)
theorem dX8_rules_51 : decode cX8_rules 51 = .ok (.aload_n 0, 1) := dk_42 (dk_at dksX8_rules_2 6 rfl rfl)
theorem dX8_rules_52 : decode cX8_rules 52 = .ok (.iconst 1, 1) := dk_4 (dk_at dksX8_rules_2 7 rfl rfl)
theorem dX8_rules_53 : decode cX8_rules 53 = .ok (.putfield 160, 3) := dk_181 0 160 (dk_at dksX8_rules_2 8 rfl rfl)
theorem dX8_rules_56 : decode cX8_rules 56 = .ok (.aload_n 0, 1) := dk_42 (dk_at dksX8_rules_2 11 rfl rfl)
theorem dX8_rules_57 : decode cX8_rules 57 = .ok (.getfield 134, 3) := dk_180 0 134 (dk_at dksX8_rules_2 12 rfl rfl)
theorem dX8_rules_60 : decode cX8_rules 60 = .ok (.ifCond .ne 17, 3) := dk_154 0 17 (dk_at dksX8_rules_2 15 rfl rfl)
theorem dX8_rules_63 : decode cX8_rules 63 = .ok (.aload_n 0, 1) := dk_42 (dk_at dksX8_rules_2 18 rfl rfl)
theorem dX8_rules_64 : decode cX8_rules 64 = .ok (.getfield 116, 3) := dk_180 0 116 (dk_at dksX8_rules_2 19 rfl rfl)
theorem dX8_rules_67 : decode cX8_rules 67 = .ok (.ifCond .eq 10, 3) := dk_153 0 10 (dk_at dksX8_rules_3 0 rfl rfl)
theorem dX8_rules_70 : decode cX8_rules 70 = .ok (.aload_n 0, 1) := dk_42 (dk_at dksX8_rules_3 3 rfl rfl)
theorem dX8_rules_71 : decode cX8_rules 71 = .ok (.invokevirtual 242, 3) := dk_182 0 242 (dk_at dksX8_rules_3 4 rfl rfl)
theorem dX8_rules_74 : decode cX8_rules 74 = .ok (.goto (-18), 3) := dk_167 255 238 (dk_at dksX8_rules_3 7 rfl rfl)
theorem dX8_rules_77 : decode cX8_rules 77 = .ok (.aload_n 0, 1) := dk_42 (dk_at dksX8_rules_3 10 rfl rfl)
theorem dX8_rules_78 : decode cX8_rules 78 = .ok (.getfield 134, 3) := dk_180 0 134 (dk_at dksX8_rules_3 11 rfl rfl)
theorem dX8_rules_81 : decode cX8_rules 81 = .ok (.ifCond .ne 40, 3) := dk_154 0 40 (dk_at dksX8_rules_3 14 rfl rfl)
theorem dX8_rules_84 : decode cX8_rules 84 = .ok (.iconst 0, 1) := dk_3 (dk_at dksX8_rules_3 17 rfl rfl)
theorem dX8_rules_85 : decode cX8_rules 85 = .ok (.istore_n 3, 1) := dk_62 (dk_at dksX8_rules_3 18 rfl rfl)
theorem dX8_rules_86 : decode cX8_rules 86 = .ok (.iload_n 3, 1) := dk_29 (dk_at dksX8_rules_3 19 rfl rfl)
theorem dX8_rules_87 : decode cX8_rules 87 = .ok (.aload_n 0, 1) := dk_42 (dk_at dksX8_rules_3 20 rfl rfl)
theorem dX8_rules_88 : decode cX8_rules 88 = .ok (.getfield 160, 3) := dk_180 0 160 (dk_at dksX8_rules_3 21 rfl rfl)
theorem dX8_rules_91 : decode cX8_rules 91 = .ok (.if_icmp .ge 30, 3) := dk_162 0 30 (dk_at dksX8_rules_4 0 rfl rfl)
theorem dX8_rules_94 : decode cX8_rules 94 = .ok (.aload_n 0, 1) := dk_42 (dk_at dksX8_rules_4 3 rfl rfl)
theorem dX8_rules_95 : decode cX8_rules 95 = .ok (.getfield 9, 3) := dk_180 0 9 (dk_at dksX8_rules_4 4 rfl rfl)
theorem dX8_rules_98 : decode cX8_rules 98 = .ok (.bipush 125, 2) := dk_16 125 (dk_at dksX8_rules_4 7 rfl rfl)
theorem dX8_rules_100 : decode cX8_rules 100 = .ok (.sipush 440, 3) := dk_17 1 184 (dk_at dksX8_rules_4 9 rfl rfl)
theorem dX8_rules_103 : decode cX8_rules 103 = .ok (.iload_n 1, 1) := dk_27 (dk_at dksX8_rules_4 12 rfl rfl)
theorem dX8_rules_104 : decode cX8_rules 104 = .ok (.imul, 1) := dk_104 (dk_at dksX8_rules_4 13 rfl rfl)
theorem dX8_rules_105 : decode cX8_rules 105 = .ok (.iadd, 1) := dk_96 (dk_at dksX8_rules_4 14 rfl rfl)
theorem dX8_rules_106 : decode cX8_rules 106 = .ok (.iload_n 3, 1) := dk_29 (dk_at dksX8_rules_4 15 rfl rfl)
theorem dX8_rules_107 : decode cX8_rules 107 = .ok (.iadd, 1) := dk_96 (dk_at dksX8_rules_4 16 rfl rfl)
theorem dX8_rules_108 : decode cX8_rules 108 = .ok (.aload_n 0, 1) := dk_42 (dk_at dksX8_rules_4 17 rfl rfl)
theorem dX8_rules_109 : decode cX8_rules 109 = .ok (.getfield 30, 3) := dk_180 0 30 (dk_at dksX8_rules_4 18 rfl rfl)
theorem dX8_rules_112 : decode cX8_rules 112 = .ok (.iload_n 3, 1) := dk_29 (dk_at dksX8_rules_4 21 rfl rfl)
theorem dX8_rules_113 : decode cX8_rules 113 = .ok (.iaload, 1) := dk_46 (dk_at dksX8_rules_4 22 rfl rfl)
theorem dX8_rules_114 : decode cX8_rules 114 = .ok (.iastore, 1) := dk_79 (dk_at dksX8_rules_4 23 rfl rfl)
theorem dX8_rules_115 : decode cX8_rules 115 = .ok (.iinc 3 1, 3) := dk_132 3 1 (dk_at dksX8_rules_5 0 rfl rfl)
theorem dX8_rules_118 : decode cX8_rules 118 = .ok (.goto (-32), 3) := dk_167 255 224 (dk_at dksX8_rules_5 3 rfl rfl)
theorem dX8_rules_121 : decode cX8_rules 121 = .ok (.aload_n 0, 1) := dk_42 (dk_at dksX8_rules_5 6 rfl rfl)
theorem dX8_rules_122 : decode cX8_rules 122 = .ok (.aload_n 0, 1) := dk_42 (dk_at dksX8_rules_5 7 rfl rfl)
theorem dX8_rules_123 : decode cX8_rules 123 = .ok (.getfield 30, 3) := dk_180 0 30 (dk_at dksX8_rules_5 8 rfl rfl)
theorem dX8_rules_126 : decode cX8_rules 126 = .ok (.iconst 0, 1) := dk_3 (dk_at dksX8_rules_5 11 rfl rfl)
theorem dX8_rules_127 : decode cX8_rules 127 = .ok (.iaload, 1) := dk_46 (dk_at dksX8_rules_5 12 rfl rfl)
theorem dX8_rules_128 : decode cX8_rules 128 = .ok (.invokevirtual 245, 3) := dk_182 0 245 (dk_at dksX8_rules_5 13 rfl rfl)
theorem dX8_rules_131 : decode cX8_rules 131 = .ok (.ireturn, 1) := dk_172 (dk_at dksX8_rules_5 16 rfl rfl)
abbrev cX8_starts : ByteArray := prog_29_method_21_code
def yX8_starts : MethodName := ⟨RX8, "starts", "(I)V"⟩
def dkwX8_starts_1 : List UInt8 := [177]
abbrev dktX8_starts_1 : List UInt8 := dkwX8_starts_1 ++ []
def dkwX8_starts_0 : List UInt8 := [42, 27, 181, 0, 104, 42, 3, 181, 0, 101, 42, 3, 181, 0, 107, 42, 3, 181, 0, 134, 42, 182, 0, 154]
abbrev dktX8_starts_0 : List UInt8 := dkwX8_starts_0 ++ dktX8_starts_1
theorem dksX8_starts_0 : cX8_starts.data.toList.drop 0 = dktX8_starts_0 := by decide +kernel
theorem dksX8_starts_1 : cX8_starts.data.toList.drop 24 = dktX8_starts_1 := dk_seg dksX8_starts_0 24 rfl rfl
theorem dX8_starts_0 : decode cX8_starts 0 = .ok (.aload_n 0, 1) := dk_42 (dk_at dksX8_starts_0 0 rfl rfl)
theorem dX8_starts_1 : decode cX8_starts 1 = .ok (.iload_n 1, 1) := dk_27 (dk_at dksX8_starts_0 1 rfl rfl)
theorem dX8_starts_2 : decode cX8_starts 2 = .ok (.putfield 104, 3) := dk_181 0 104 (dk_at dksX8_starts_0 2 rfl rfl)
theorem dX8_starts_5 : decode cX8_starts 5 = .ok (.aload_n 0, 1) := dk_42 (dk_at dksX8_starts_0 5 rfl rfl)
theorem dX8_starts_6 : decode cX8_starts 6 = .ok (.iconst 0, 1) := dk_3 (dk_at dksX8_starts_0 6 rfl rfl)
theorem dX8_starts_7 : decode cX8_starts 7 = .ok (.putfield 101, 3) := dk_181 0 101 (dk_at dksX8_starts_0 7 rfl rfl)
theorem dX8_starts_10 : decode cX8_starts 10 = .ok (.aload_n 0, 1) := dk_42 (dk_at dksX8_starts_0 10 rfl rfl)
theorem dX8_starts_11 : decode cX8_starts 11 = .ok (.iconst 0, 1) := dk_3 (dk_at dksX8_starts_0 11 rfl rfl)
theorem dX8_starts_12 : decode cX8_starts 12 = .ok (.putfield 107, 3) := dk_181 0 107 (dk_at dksX8_starts_0 12 rfl rfl)
theorem dX8_starts_15 : decode cX8_starts 15 = .ok (.aload_n 0, 1) := dk_42 (dk_at dksX8_starts_0 15 rfl rfl)
theorem dX8_starts_16 : decode cX8_starts 16 = .ok (.iconst 0, 1) := dk_3 (dk_at dksX8_starts_0 16 rfl rfl)
theorem dX8_starts_17 : decode cX8_starts 17 = .ok (.putfield 134, 3) := dk_181 0 134 (dk_at dksX8_starts_0 17 rfl rfl)
theorem dX8_starts_20 : decode cX8_starts 20 = .ok (.aload_n 0, 1) := dk_42 (dk_at dksX8_starts_0 20 rfl rfl)
theorem dX8_starts_21 : decode cX8_starts 21 = .ok (.invokevirtual 154, 3) := dk_182 0 154 (dk_at dksX8_starts_0 21 rfl rfl)
theorem dX8_starts_24 : decode cX8_starts 24 = .ok (.return_, 1) := dk_177 (dk_at dksX8_starts_1 0 rfl rfl)
abbrev cX8_next : ByteArray := prog_29_method_16_code
def yX8_next : MethodName := ⟨RX8, "next", "()V"⟩
def dkwX8_next_12 : List UInt8 := [180, 0, 107, 4, 96, 181, 0, 107, 177]
abbrev dktX8_next_12 : List UInt8 := dkwX8_next_12 ++ []
def dkwX8_next_11 : List UInt8 := [181, 0, 116, 42, 42, 180, 0, 116, 6, 160, 0, 7, 27, 167, 0, 4, 3, 181, 0, 113, 42, 89]
abbrev dktX8_next_11 : List UInt8 := dkwX8_next_11 ++ dktX8_next_12
def dkwX8_next_10 : List UInt8 := [167, 0, 4, 5, 181, 0, 116, 167, 0, 46, 42, 27, 184, 0, 131, 153, 0, 7, 6, 167, 0, 4, 7]
abbrev dktX8_next_10 : List UInt8 := dkwX8_next_10 ++ dktX8_next_11
def dkwX8_next_9 : List UInt8 := [96, 181, 0, 107, 167, 255, 188, 42, 42, 180, 0, 107, 42, 180, 0, 110, 100, 5, 164, 0, 7, 7]
abbrev dktX8_next_9 : List UInt8 := dkwX8_next_9 ++ dktX8_next_10
def dkwX8_next_8 : List UInt8 := [180, 0, 107, 46, 96, 16, 48, 100, 167, 0, 7, 42, 180, 0, 128, 181, 0, 128, 42, 89, 180, 0, 107, 4]
abbrev dktX8_next_8 : List UInt8 := dkwX8_next_8 ++ dktX8_next_9
def dkwX8_next_7 : List UInt8 := [180, 0, 107, 42, 180, 0, 110, 100, 5, 162, 0, 26, 16, 10, 42, 180, 0, 128, 104, 42, 180, 0, 27, 42]
abbrev dktX8_next_7 : List UInt8 := dkwX8_next_7 ++ dktX8_next_8
def dkwX8_next_6 : List UInt8 := [153, 0, 104, 42, 3, 181, 0, 128, 42, 42, 180, 0, 107, 182, 0, 122, 184, 0, 125, 153, 0, 60, 42, 42]
abbrev dktX8_next_6 : List UInt8 := dkwX8_next_6 ++ dktX8_next_7
def dkwX8_next_5 : List UInt8 := [180, 0, 107, 4, 96, 181, 0, 107, 167, 255, 232, 42, 4, 181, 0, 116, 167, 0, 154, 27, 184, 0, 125]
abbrev dktX8_next_5 : List UInt8 := dkwX8_next_5 ++ dktX8_next_6
def dkwX8_next_4 : List UInt8 := [184, 0, 119, 153, 0, 38, 42, 42, 180, 0, 107, 182, 0, 122, 184, 0, 119, 153, 0, 16, 42, 89]
abbrev dktX8_next_4 : List UInt8 := dkwX8_next_4 ++ dktX8_next_5
def dkwX8_next_3 : List UInt8 := [180, 0, 104, 161, 0, 9, 42, 3, 181, 0, 116, 177, 42, 180, 0, 27, 42, 180, 0, 107, 46, 60, 27]
abbrev dktX8_next_3 : List UInt8 := dkwX8_next_3 ++ dktX8_next_4
def dkwX8_next_2 : List UInt8 := [181, 0, 107, 167, 255, 207, 42, 42, 180, 0, 107, 181, 0, 110, 42, 3, 181, 0, 113, 42, 180, 0, 107, 42]
abbrev dktX8_next_2 : List UInt8 := dkwX8_next_2 ++ dktX8_next_3
def dkwX8_next_1 : List UInt8 := [159, 0, 17, 42, 180, 0, 27, 42, 180, 0, 107, 46, 16, 10, 160, 0, 16, 42, 89, 180, 0, 107, 4, 96]
abbrev dktX8_next_1 : List UInt8 := dkwX8_next_1 ++ dktX8_next_2
def dkwX8_next_0 : List UInt8 := [42, 180, 0, 107, 42, 180, 0, 104, 162, 0, 44, 42, 180, 0, 27, 42, 180, 0, 107, 46, 16, 32]
abbrev dktX8_next_0 : List UInt8 := dkwX8_next_0 ++ dktX8_next_1
theorem dksX8_next_0 : cX8_next.data.toList.drop 0 = dktX8_next_0 := by decide +kernel
theorem dksX8_next_1 : cX8_next.data.toList.drop 22 = dktX8_next_1 := dk_seg dksX8_next_0 22 rfl rfl
theorem dksX8_next_2 : cX8_next.data.toList.drop 46 = dktX8_next_2 := dk_seg dksX8_next_1 24 rfl rfl
theorem dksX8_next_3 : cX8_next.data.toList.drop 70 = dktX8_next_3 := dk_seg dksX8_next_2 24 rfl rfl
theorem dksX8_next_4 : cX8_next.data.toList.drop 93 = dktX8_next_4 := dk_seg dksX8_next_3 23 rfl rfl
theorem dksX8_next_5 : cX8_next.data.toList.drop 115 = dktX8_next_5 := dk_seg dksX8_next_4 22 rfl rfl
theorem dksX8_next_6 : cX8_next.data.toList.drop 138 = dktX8_next_6 := dk_seg dksX8_next_5 23 rfl rfl
theorem dksX8_next_7 : cX8_next.data.toList.drop 162 = dktX8_next_7 := dk_seg dksX8_next_6 24 rfl rfl
theorem dksX8_next_8 : cX8_next.data.toList.drop 186 = dktX8_next_8 := dk_seg dksX8_next_7 24 rfl rfl
theorem dksX8_next_9 : cX8_next.data.toList.drop 210 = dktX8_next_9 := dk_seg dksX8_next_8 24 rfl rfl
theorem dksX8_next_10 : cX8_next.data.toList.drop 232 = dktX8_next_10 := dk_seg dksX8_next_9 22 rfl rfl
theorem dksX8_next_11 : cX8_next.data.toList.drop 255 = dktX8_next_11 := dk_seg dksX8_next_10 23 rfl rfl
theorem dksX8_next_12 : cX8_next.data.toList.drop 277 = dktX8_next_12 := dk_seg dksX8_next_11 22 rfl rfl
theorem dX8_next_0 : decode cX8_next 0 = .ok (.aload_n 0, 1) := dk_42 (dk_at dksX8_next_0 0 rfl rfl)
theorem dX8_next_1 : decode cX8_next 1 = .ok (.getfield 107, 3) := dk_180 0 107 (dk_at dksX8_next_0 1 rfl rfl)
theorem dX8_next_4 : decode cX8_next 4 = .ok (.aload_n 0, 1) := dk_42 (dk_at dksX8_next_0 4 rfl rfl)
theorem dX8_next_5 : decode cX8_next 5 = .ok (.getfield 104, 3) := dk_180 0 104 (dk_at dksX8_next_0 5 rfl rfl)
theorem dX8_next_8 : decode cX8_next 8 = .ok (.if_icmp .ge 44, 3) := dk_162 0 44 (dk_at dksX8_next_0 8 rfl rfl)
theorem dX8_next_11 : decode cX8_next 11 = .ok (.aload_n 0, 1) := dk_42 (dk_at dksX8_next_0 11 rfl rfl)
theorem dX8_next_12 : decode cX8_next 12 = .ok (.getfield 27, 3) := dk_180 0 27 (dk_at dksX8_next_0 12 rfl rfl)
theorem dX8_next_15 : decode cX8_next 15 = .ok (.aload_n 0, 1) := dk_42 (dk_at dksX8_next_0 15 rfl rfl)
theorem dX8_next_16 : decode cX8_next 16 = .ok (.getfield 107, 3) := dk_180 0 107 (dk_at dksX8_next_0 16 rfl rfl)
theorem dX8_next_19 : decode cX8_next 19 = .ok (.iaload, 1) := dk_46 (dk_at dksX8_next_0 19 rfl rfl)
theorem dX8_next_20 : decode cX8_next 20 = .ok (.bipush 32, 2) := dk_16 32 (dk_at dksX8_next_0 20 rfl rfl)
theorem dX8_next_22 : decode cX8_next 22 = .ok (.if_icmp .eq 17, 3) := dk_159 0 17 (dk_at dksX8_next_1 0 rfl rfl)
theorem dX8_next_25 : decode cX8_next 25 = .ok (.aload_n 0, 1) := dk_42 (dk_at dksX8_next_1 3 rfl rfl)
theorem dX8_next_26 : decode cX8_next 26 = .ok (.getfield 27, 3) := dk_180 0 27 (dk_at dksX8_next_1 4 rfl rfl)
theorem dX8_next_29 : decode cX8_next 29 = .ok (.aload_n 0, 1) := dk_42 (dk_at dksX8_next_1 7 rfl rfl)
theorem dX8_next_30 : decode cX8_next 30 = .ok (.getfield 107, 3) := dk_180 0 107 (dk_at dksX8_next_1 8 rfl rfl)
theorem dX8_next_33 : decode cX8_next 33 = .ok (.iaload, 1) := dk_46 (dk_at dksX8_next_1 11 rfl rfl)
theorem dX8_next_34 : decode cX8_next 34 = .ok (.bipush 10, 2) := dk_16 10 (dk_at dksX8_next_1 12 rfl rfl)
theorem dX8_next_36 : decode cX8_next 36 = .ok (.if_icmp .ne 16, 3) := dk_160 0 16 (dk_at dksX8_next_1 14 rfl rfl)
theorem dX8_next_39 : decode cX8_next 39 = .ok (.aload_n 0, 1) := dk_42 (dk_at dksX8_next_1 17 rfl rfl)
theorem dX8_next_40 : decode cX8_next 40 = .ok (.dup, 1) := dk_89 (dk_at dksX8_next_1 18 rfl rfl)
theorem dX8_next_41 : decode cX8_next 41 = .ok (.getfield 107, 3) := dk_180 0 107 (dk_at dksX8_next_1 19 rfl rfl)
theorem dX8_next_44 : decode cX8_next 44 = .ok (.iconst 1, 1) := dk_4 (dk_at dksX8_next_1 22 rfl rfl)
theorem dX8_next_45 : decode cX8_next 45 = .ok (.iadd, 1) := dk_96 (dk_at dksX8_next_1 23 rfl rfl)
theorem dX8_next_46 : decode cX8_next 46 = .ok (.putfield 107, 3) := dk_181 0 107 (dk_at dksX8_next_2 0 rfl rfl)
theorem dX8_next_49 : decode cX8_next 49 = .ok (.goto (-49), 3) := dk_167 255 207 (dk_at dksX8_next_2 3 rfl rfl)
theorem dX8_next_52 : decode cX8_next 52 = .ok (.aload_n 0, 1) := dk_42 (dk_at dksX8_next_2 6 rfl rfl)
theorem dX8_next_53 : decode cX8_next 53 = .ok (.aload_n 0, 1) := dk_42 (dk_at dksX8_next_2 7 rfl rfl)
theorem dX8_next_54 : decode cX8_next 54 = .ok (.getfield 107, 3) := dk_180 0 107 (dk_at dksX8_next_2 8 rfl rfl)
theorem dX8_next_57 : decode cX8_next 57 = .ok (.putfield 110, 3) := dk_181 0 110 (dk_at dksX8_next_2 11 rfl rfl)
theorem dX8_next_60 : decode cX8_next 60 = .ok (.aload_n 0, 1) := dk_42 (dk_at dksX8_next_2 14 rfl rfl)
theorem dX8_next_61 : decode cX8_next 61 = .ok (.iconst 0, 1) := dk_3 (dk_at dksX8_next_2 15 rfl rfl)
theorem dX8_next_62 : decode cX8_next 62 = .ok (.putfield 113, 3) := dk_181 0 113 (dk_at dksX8_next_2 16 rfl rfl)
theorem dX8_next_65 : decode cX8_next 65 = .ok (.aload_n 0, 1) := dk_42 (dk_at dksX8_next_2 19 rfl rfl)
theorem dX8_next_66 : decode cX8_next 66 = .ok (.getfield 107, 3) := dk_180 0 107 (dk_at dksX8_next_2 20 rfl rfl)
theorem dX8_next_69 : decode cX8_next 69 = .ok (.aload_n 0, 1) := dk_42 (dk_at dksX8_next_2 23 rfl rfl)
theorem dX8_next_70 : decode cX8_next 70 = .ok (.getfield 104, 3) := dk_180 0 104 (dk_at dksX8_next_3 0 rfl rfl)
theorem dX8_next_73 : decode cX8_next 73 = .ok (.if_icmp .lt 9, 3) := dk_161 0 9 (dk_at dksX8_next_3 3 rfl rfl)
theorem dX8_next_76 : decode cX8_next 76 = .ok (.aload_n 0, 1) := dk_42 (dk_at dksX8_next_3 6 rfl rfl)
theorem dX8_next_77 : decode cX8_next 77 = .ok (.iconst 0, 1) := dk_3 (dk_at dksX8_next_3 7 rfl rfl)
theorem dX8_next_78 : decode cX8_next 78 = .ok (.putfield 116, 3) := dk_181 0 116 (dk_at dksX8_next_3 8 rfl rfl)
theorem dX8_next_81 : decode cX8_next 81 = .ok (.return_, 1) := dk_177 (dk_at dksX8_next_3 11 rfl rfl)
theorem dX8_next_82 : decode cX8_next 82 = .ok (.aload_n 0, 1) := dk_42 (dk_at dksX8_next_3 12 rfl rfl)
theorem dX8_next_83 : decode cX8_next 83 = .ok (.getfield 27, 3) := dk_180 0 27 (dk_at dksX8_next_3 13 rfl rfl)
theorem dX8_next_86 : decode cX8_next 86 = .ok (.aload_n 0, 1) := dk_42 (dk_at dksX8_next_3 16 rfl rfl)
theorem dX8_next_87 : decode cX8_next 87 = .ok (.getfield 107, 3) := dk_180 0 107 (dk_at dksX8_next_3 17 rfl rfl)
theorem dX8_next_90 : decode cX8_next 90 = .ok (.iaload, 1) := dk_46 (dk_at dksX8_next_3 20 rfl rfl)
theorem dX8_next_91 : decode cX8_next 91 = .ok (.istore_n 1, 1) := dk_60 (dk_at dksX8_next_3 21 rfl rfl)
theorem dX8_next_92 : decode cX8_next 92 = .ok (.iload_n 1, 1) := dk_27 (dk_at dksX8_next_3 22 rfl rfl)
theorem dX8_next_93 : decode cX8_next 93 = .ok (.invokestatic 119, 3) := dk_184 0 119 (dk_at dksX8_next_4 0 rfl rfl)
theorem dX8_next_96 : decode cX8_next 96 = .ok (.ifCond .eq 38, 3) := dk_153 0 38 (dk_at dksX8_next_4 3 rfl rfl)
theorem dX8_next_99 : decode cX8_next 99 = .ok (.aload_n 0, 1) := dk_42 (dk_at dksX8_next_4 6 rfl rfl)
theorem dX8_next_100 : decode cX8_next 100 = .ok (.aload_n 0, 1) := dk_42 (dk_at dksX8_next_4 7 rfl rfl)
theorem dX8_next_101 : decode cX8_next 101 = .ok (.getfield 107, 3) := dk_180 0 107 (dk_at dksX8_next_4 8 rfl rfl)
theorem dX8_next_104 : decode cX8_next 104 = .ok (.invokevirtual 122, 3) := dk_182 0 122 (dk_at dksX8_next_4 11 rfl rfl)
theorem dX8_next_107 : decode cX8_next 107 = .ok (.invokestatic 119, 3) := dk_184 0 119 (dk_at dksX8_next_4 14 rfl rfl)
theorem dX8_next_110 : decode cX8_next 110 = .ok (.ifCond .eq 16, 3) := dk_153 0 16 (dk_at dksX8_next_4 17 rfl rfl)
theorem dX8_next_113 : decode cX8_next 113 = .ok (.aload_n 0, 1) := dk_42 (dk_at dksX8_next_4 20 rfl rfl)
theorem dX8_next_114 : decode cX8_next 114 = .ok (.dup, 1) := dk_89 (dk_at dksX8_next_4 21 rfl rfl)
theorem dX8_next_115 : decode cX8_next 115 = .ok (.getfield 107, 3) := dk_180 0 107 (dk_at dksX8_next_5 0 rfl rfl)
theorem dX8_next_118 : decode cX8_next 118 = .ok (.iconst 1, 1) := dk_4 (dk_at dksX8_next_5 3 rfl rfl)
theorem dX8_next_119 : decode cX8_next 119 = .ok (.iadd, 1) := dk_96 (dk_at dksX8_next_5 4 rfl rfl)
theorem dX8_next_120 : decode cX8_next 120 = .ok (.putfield 107, 3) := dk_181 0 107 (dk_at dksX8_next_5 5 rfl rfl)
theorem dX8_next_123 : decode cX8_next 123 = .ok (.goto (-24), 3) := dk_167 255 232 (dk_at dksX8_next_5 8 rfl rfl)
theorem dX8_next_126 : decode cX8_next 126 = .ok (.aload_n 0, 1) := dk_42 (dk_at dksX8_next_5 11 rfl rfl)
theorem dX8_next_127 : decode cX8_next 127 = .ok (.iconst 1, 1) := dk_4 (dk_at dksX8_next_5 12 rfl rfl)
theorem dX8_next_128 : decode cX8_next 128 = .ok (.putfield 116, 3) := dk_181 0 116 (dk_at dksX8_next_5 13 rfl rfl)
theorem dX8_next_131 : decode cX8_next 131 = .ok (.goto 154, 3) := dk_167 0 154 (dk_at dksX8_next_5 16 rfl rfl)
theorem dX8_next_134 : decode cX8_next 134 = .ok (.iload_n 1, 1) := dk_27 (dk_at dksX8_next_5 19 rfl rfl)
theorem dX8_next_135 : decode cX8_next 135 = .ok (.invokestatic 125, 3) := dk_184 0 125 (dk_at dksX8_next_5 20 rfl rfl)
theorem dX8_next_138 : decode cX8_next 138 = .ok (.ifCond .eq 104, 3) := dk_153 0 104 (dk_at dksX8_next_6 0 rfl rfl)
theorem dX8_next_141 : decode cX8_next 141 = .ok (.aload_n 0, 1) := dk_42 (dk_at dksX8_next_6 3 rfl rfl)
theorem dX8_next_142 : decode cX8_next 142 = .ok (.iconst 0, 1) := dk_3 (dk_at dksX8_next_6 4 rfl rfl)
theorem dX8_next_143 : decode cX8_next 143 = .ok (.putfield 128, 3) := dk_181 0 128 (dk_at dksX8_next_6 5 rfl rfl)
theorem dX8_next_146 : decode cX8_next 146 = .ok (.aload_n 0, 1) := dk_42 (dk_at dksX8_next_6 8 rfl rfl)
theorem dX8_next_147 : decode cX8_next 147 = .ok (.aload_n 0, 1) := dk_42 (dk_at dksX8_next_6 9 rfl rfl)
theorem dX8_next_148 : decode cX8_next 148 = .ok (.getfield 107, 3) := dk_180 0 107 (dk_at dksX8_next_6 10 rfl rfl)
theorem dX8_next_151 : decode cX8_next 151 = .ok (.invokevirtual 122, 3) := dk_182 0 122 (dk_at dksX8_next_6 13 rfl rfl)
theorem dX8_next_154 : decode cX8_next 154 = .ok (.invokestatic 125, 3) := dk_184 0 125 (dk_at dksX8_next_6 16 rfl rfl)
theorem dX8_next_157 : decode cX8_next 157 = .ok (.ifCond .eq 60, 3) := dk_153 0 60 (dk_at dksX8_next_6 19 rfl rfl)
theorem dX8_next_160 : decode cX8_next 160 = .ok (.aload_n 0, 1) := dk_42 (dk_at dksX8_next_6 22 rfl rfl)
theorem dX8_next_161 : decode cX8_next 161 = .ok (.aload_n 0, 1) := dk_42 (dk_at dksX8_next_6 23 rfl rfl)
theorem dX8_next_162 : decode cX8_next 162 = .ok (.getfield 107, 3) := dk_180 0 107 (dk_at dksX8_next_7 0 rfl rfl)
theorem dX8_next_165 : decode cX8_next 165 = .ok (.aload_n 0, 1) := dk_42 (dk_at dksX8_next_7 3 rfl rfl)
theorem dX8_next_166 : decode cX8_next 166 = .ok (.getfield 110, 3) := dk_180 0 110 (dk_at dksX8_next_7 4 rfl rfl)
theorem dX8_next_169 : decode cX8_next 169 = .ok (.isub, 1) := dk_100 (dk_at dksX8_next_7 7 rfl rfl)
theorem dX8_next_170 : decode cX8_next 170 = .ok (.iconst 2, 1) := dk_5 (dk_at dksX8_next_7 8 rfl rfl)
theorem dX8_next_171 : decode cX8_next 171 = .ok (.if_icmp .ge 26, 3) := dk_162 0 26 (dk_at dksX8_next_7 9 rfl rfl)
theorem dX8_next_174 : decode cX8_next 174 = .ok (.bipush 10, 2) := dk_16 10 (dk_at dksX8_next_7 12 rfl rfl)
theorem dX8_next_176 : decode cX8_next 176 = .ok (.aload_n 0, 1) := dk_42 (dk_at dksX8_next_7 14 rfl rfl)
theorem dX8_next_177 : decode cX8_next 177 = .ok (.getfield 128, 3) := dk_180 0 128 (dk_at dksX8_next_7 15 rfl rfl)
theorem dX8_next_180 : decode cX8_next 180 = .ok (.imul, 1) := dk_104 (dk_at dksX8_next_7 18 rfl rfl)
theorem dX8_next_181 : decode cX8_next 181 = .ok (.aload_n 0, 1) := dk_42 (dk_at dksX8_next_7 19 rfl rfl)
theorem dX8_next_182 : decode cX8_next 182 = .ok (.getfield 27, 3) := dk_180 0 27 (dk_at dksX8_next_7 20 rfl rfl)
theorem dX8_next_185 : decode cX8_next 185 = .ok (.aload_n 0, 1) := dk_42 (dk_at dksX8_next_7 23 rfl rfl)
theorem dX8_next_186 : decode cX8_next 186 = .ok (.getfield 107, 3) := dk_180 0 107 (dk_at dksX8_next_8 0 rfl rfl)
theorem dX8_next_189 : decode cX8_next 189 = .ok (.iaload, 1) := dk_46 (dk_at dksX8_next_8 3 rfl rfl)
theorem dX8_next_190 : decode cX8_next 190 = .ok (.iadd, 1) := dk_96 (dk_at dksX8_next_8 4 rfl rfl)
theorem dX8_next_191 : decode cX8_next 191 = .ok (.bipush 48, 2) := dk_16 48 (dk_at dksX8_next_8 5 rfl rfl)
theorem dX8_next_193 : decode cX8_next 193 = .ok (.isub, 1) := dk_100 (dk_at dksX8_next_8 7 rfl rfl)
theorem dX8_next_194 : decode cX8_next 194 = .ok (.goto 7, 3) := dk_167 0 7 (dk_at dksX8_next_8 8 rfl rfl)
theorem dX8_next_197 : decode cX8_next 197 = .ok (.aload_n 0, 1) := dk_42 (dk_at dksX8_next_8 11 rfl rfl)
theorem dX8_next_198 : decode cX8_next 198 = .ok (.getfield 128, 3) := dk_180 0 128 (dk_at dksX8_next_8 12 rfl rfl)
theorem dX8_next_201 : decode cX8_next 201 = .ok (.putfield 128, 3) := dk_181 0 128 (dk_at dksX8_next_8 15 rfl rfl)
theorem dX8_next_204 : decode cX8_next 204 = .ok (.aload_n 0, 1) := dk_42 (dk_at dksX8_next_8 18 rfl rfl)
theorem dX8_next_205 : decode cX8_next 205 = .ok (.dup, 1) := dk_89 (dk_at dksX8_next_8 19 rfl rfl)
theorem dX8_next_206 : decode cX8_next 206 = .ok (.getfield 107, 3) := dk_180 0 107 (dk_at dksX8_next_8 20 rfl rfl)
theorem dX8_next_209 : decode cX8_next 209 = .ok (.iconst 1, 1) := dk_4 (dk_at dksX8_next_8 23 rfl rfl)
theorem dX8_next_210 : decode cX8_next 210 = .ok (.iadd, 1) := dk_96 (dk_at dksX8_next_9 0 rfl rfl)
theorem dX8_next_211 : decode cX8_next 211 = .ok (.putfield 107, 3) := dk_181 0 107 (dk_at dksX8_next_9 1 rfl rfl)
theorem dX8_next_214 : decode cX8_next 214 = .ok (.goto (-68), 3) := dk_167 255 188 (dk_at dksX8_next_9 4 rfl rfl)
theorem dX8_next_217 : decode cX8_next 217 = .ok (.aload_n 0, 1) := dk_42 (dk_at dksX8_next_9 7 rfl rfl)
theorem dX8_next_218 : decode cX8_next 218 = .ok (.aload_n 0, 1) := dk_42 (dk_at dksX8_next_9 8 rfl rfl)
theorem dX8_next_219 : decode cX8_next 219 = .ok (.getfield 107, 3) := dk_180 0 107 (dk_at dksX8_next_9 9 rfl rfl)
theorem dX8_next_222 : decode cX8_next 222 = .ok (.aload_n 0, 1) := dk_42 (dk_at dksX8_next_9 12 rfl rfl)
theorem dX8_next_223 : decode cX8_next 223 = .ok (.getfield 110, 3) := dk_180 0 110 (dk_at dksX8_next_9 13 rfl rfl)
theorem dX8_next_226 : decode cX8_next 226 = .ok (.isub, 1) := dk_100 (dk_at dksX8_next_9 16 rfl rfl)
theorem dX8_next_227 : decode cX8_next 227 = .ok (.iconst 2, 1) := dk_5 (dk_at dksX8_next_9 17 rfl rfl)
theorem dX8_next_228 : decode cX8_next 228 = .ok (.if_icmp .le 7, 3) := dk_164 0 7 (dk_at dksX8_next_9 18 rfl rfl)
theorem dX8_next_231 : decode cX8_next 231 = .ok (.iconst 4, 1) := dk_7 (dk_at dksX8_next_9 21 rfl rfl)
theorem dX8_next_232 : decode cX8_next 232 = .ok (.goto 4, 3) := dk_167 0 4 (dk_at dksX8_next_10 0 rfl rfl)
theorem dX8_next_235 : decode cX8_next 235 = .ok (.iconst 2, 1) := dk_5 (dk_at dksX8_next_10 3 rfl rfl)
theorem dX8_next_236 : decode cX8_next 236 = .ok (.putfield 116, 3) := dk_181 0 116 (dk_at dksX8_next_10 4 rfl rfl)
theorem dX8_next_239 : decode cX8_next 239 = .ok (.goto 46, 3) := dk_167 0 46 (dk_at dksX8_next_10 7 rfl rfl)
theorem dX8_next_242 : decode cX8_next 242 = .ok (.aload_n 0, 1) := dk_42 (dk_at dksX8_next_10 10 rfl rfl)
theorem dX8_next_243 : decode cX8_next 243 = .ok (.iload_n 1, 1) := dk_27 (dk_at dksX8_next_10 11 rfl rfl)
theorem dX8_next_244 : decode cX8_next 244 = .ok (.invokestatic 131, 3) := dk_184 0 131 (dk_at dksX8_next_10 12 rfl rfl)
theorem dX8_next_247 : decode cX8_next 247 = .ok (.ifCond .eq 7, 3) := dk_153 0 7 (dk_at dksX8_next_10 15 rfl rfl)
theorem dX8_next_250 : decode cX8_next 250 = .ok (.iconst 3, 1) := dk_6 (dk_at dksX8_next_10 18 rfl rfl)
theorem dX8_next_251 : decode cX8_next 251 = .ok (.goto 4, 3) := dk_167 0 4 (dk_at dksX8_next_10 19 rfl rfl)
theorem dX8_next_254 : decode cX8_next 254 = .ok (.iconst 4, 1) := dk_7 (dk_at dksX8_next_10 22 rfl rfl)
theorem dX8_next_255 : decode cX8_next 255 = .ok (.putfield 116, 3) := dk_181 0 116 (dk_at dksX8_next_11 0 rfl rfl)
theorem dX8_next_258 : decode cX8_next 258 = .ok (.aload_n 0, 1) := dk_42 (dk_at dksX8_next_11 3 rfl rfl)
theorem dX8_next_259 : decode cX8_next 259 = .ok (.aload_n 0, 1) := dk_42 (dk_at dksX8_next_11 4 rfl rfl)
theorem dX8_next_260 : decode cX8_next 260 = .ok (.getfield 116, 3) := dk_180 0 116 (dk_at dksX8_next_11 5 rfl rfl)
theorem dX8_next_263 : decode cX8_next 263 = .ok (.iconst 3, 1) := dk_6 (dk_at dksX8_next_11 8 rfl rfl)
theorem dX8_next_264 : decode cX8_next 264 = .ok (.if_icmp .ne 7, 3) := dk_160 0 7 (dk_at dksX8_next_11 9 rfl rfl)
theorem dX8_next_267 : decode cX8_next 267 = .ok (.iload_n 1, 1) := dk_27 (dk_at dksX8_next_11 12 rfl rfl)
theorem dX8_next_268 : decode cX8_next 268 = .ok (.goto 4, 3) := dk_167 0 4 (dk_at dksX8_next_11 13 rfl rfl)
theorem dX8_next_271 : decode cX8_next 271 = .ok (.iconst 0, 1) := dk_3 (dk_at dksX8_next_11 16 rfl rfl)
theorem dX8_next_272 : decode cX8_next 272 = .ok (.putfield 113, 3) := dk_181 0 113 (dk_at dksX8_next_11 17 rfl rfl)
theorem dX8_next_275 : decode cX8_next 275 = .ok (.aload_n 0, 1) := dk_42 (dk_at dksX8_next_11 20 rfl rfl)
theorem dX8_next_276 : decode cX8_next 276 = .ok (.dup, 1) := dk_89 (dk_at dksX8_next_11 21 rfl rfl)
theorem dX8_next_277 : decode cX8_next 277 = .ok (.getfield 107, 3) := dk_180 0 107 (dk_at dksX8_next_12 0 rfl rfl)
theorem dX8_next_280 : decode cX8_next 280 = .ok (.iconst 1, 1) := dk_4 (dk_at dksX8_next_12 3 rfl rfl)
theorem dX8_next_281 : decode cX8_next 281 = .ok (.iadd, 1) := dk_96 (dk_at dksX8_next_12 4 rfl rfl)
theorem dX8_next_282 : decode cX8_next 282 = .ok (.putfield 107, 3) := dk_181 0 107 (dk_at dksX8_next_12 5 rfl rfl)
theorem dX8_next_285 : decode cX8_next 285 = .ok (.return_, 1) := dk_177 (dk_at dksX8_next_12 8 rfl rfl)
abbrev cX8_isLetter : ByteArray := prog_29_method_13_code
def yX8_isLetter : MethodName := ⟨RX8, "isLetter", "(I)Z"⟩
def dkwX8_isLetter_0 : List UInt8 := [26, 16, 97, 161, 0, 13, 26, 16, 122, 163, 0, 7, 4, 167, 0, 4, 3, 172]
abbrev dktX8_isLetter_0 : List UInt8 := dkwX8_isLetter_0 ++ []
theorem dksX8_isLetter_0 : cX8_isLetter.data.toList.drop 0 = dktX8_isLetter_0 := by decide +kernel
theorem dX8_isLetter_0 : decode cX8_isLetter 0 = .ok (.iload_n 0, 1) := dk_26 (dk_at dksX8_isLetter_0 0 rfl rfl)
theorem dX8_isLetter_1 : decode cX8_isLetter 1 = .ok (.bipush 97, 2) := dk_16 97 (dk_at dksX8_isLetter_0 1 rfl rfl)
theorem dX8_isLetter_3 : decode cX8_isLetter 3 = .ok (.if_icmp .lt 13, 3) := dk_161 0 13 (dk_at dksX8_isLetter_0 3 rfl rfl)
theorem dX8_isLetter_6 : decode cX8_isLetter 6 = .ok (.iload_n 0, 1) := dk_26 (dk_at dksX8_isLetter_0 6 rfl rfl)
theorem dX8_isLetter_7 : decode cX8_isLetter 7 = .ok (.bipush 122, 2) := dk_16 122 (dk_at dksX8_isLetter_0 7 rfl rfl)
theorem dX8_isLetter_9 : decode cX8_isLetter 9 = .ok (.if_icmp .gt 7, 3) := dk_163 0 7 (dk_at dksX8_isLetter_0 9 rfl rfl)
theorem dX8_isLetter_12 : decode cX8_isLetter 12 = .ok (.iconst 1, 1) := dk_4 (dk_at dksX8_isLetter_0 12 rfl rfl)
theorem dX8_isLetter_13 : decode cX8_isLetter 13 = .ok (.goto 4, 3) := dk_167 0 4 (dk_at dksX8_isLetter_0 13 rfl rfl)
theorem dX8_isLetter_16 : decode cX8_isLetter 16 = .ok (.iconst 0, 1) := dk_3 (dk_at dksX8_isLetter_0 16 rfl rfl)
theorem dX8_isLetter_17 : decode cX8_isLetter 17 = .ok (.ireturn, 1) := dk_172 (dk_at dksX8_isLetter_0 17 rfl rfl)
abbrev cX8_see : ByteArray := prog_29_method_12_code
def yX8_see : MethodName := ⟨RX8, "see", "(I)I"⟩
def dkwX8_see_0 : List UInt8 := [27, 42, 180, 0, 104, 162, 0, 12, 42, 180, 0, 27, 27, 46, 167, 0, 4, 3, 172]
abbrev dktX8_see_0 : List UInt8 := dkwX8_see_0 ++ []
theorem dksX8_see_0 : cX8_see.data.toList.drop 0 = dktX8_see_0 := by decide +kernel
theorem dX8_see_0 : decode cX8_see 0 = .ok (.iload_n 1, 1) := dk_27 (dk_at dksX8_see_0 0 rfl rfl)
theorem dX8_see_1 : decode cX8_see 1 = .ok (.aload_n 0, 1) := dk_42 (dk_at dksX8_see_0 1 rfl rfl)
theorem dX8_see_2 : decode cX8_see 2 = .ok (.getfield 104, 3) := dk_180 0 104 (dk_at dksX8_see_0 2 rfl rfl)
theorem dX8_see_5 : decode cX8_see 5 = .ok (.if_icmp .ge 12, 3) := dk_162 0 12 (dk_at dksX8_see_0 5 rfl rfl)
theorem dX8_see_8 : decode cX8_see 8 = .ok (.aload_n 0, 1) := dk_42 (dk_at dksX8_see_0 8 rfl rfl)
theorem dX8_see_9 : decode cX8_see 9 = .ok (.getfield 27, 3) := dk_180 0 27 (dk_at dksX8_see_0 9 rfl rfl)
theorem dX8_see_12 : decode cX8_see 12 = .ok (.iload_n 1, 1) := dk_27 (dk_at dksX8_see_0 12 rfl rfl)
theorem dX8_see_13 : decode cX8_see 13 = .ok (.iaload, 1) := dk_46 (dk_at dksX8_see_0 13 rfl rfl)
theorem dX8_see_14 : decode cX8_see 14 = .ok (.goto 4, 3) := dk_167 0 4 (dk_at dksX8_see_0 14 rfl rfl)
theorem dX8_see_17 : decode cX8_see 17 = .ok (.iconst 0, 1) := dk_3 (dk_at dksX8_see_0 17 rfl rfl)
theorem dX8_see_18 : decode cX8_see 18 = .ok (.ireturn, 1) := dk_172 (dk_at dksX8_see_0 18 rfl rfl)
abbrev cX8_isDigit : ByteArray := prog_29_method_14_code
def yX8_isDigit : MethodName := ⟨RX8, "isDigit", "(I)Z"⟩
def dkwX8_isDigit_0 : List UInt8 := [26, 16, 48, 161, 0, 13, 26, 16, 57, 163, 0, 7, 4, 167, 0, 4, 3, 172]
abbrev dktX8_isDigit_0 : List UInt8 := dkwX8_isDigit_0 ++ []
theorem dksX8_isDigit_0 : cX8_isDigit.data.toList.drop 0 = dktX8_isDigit_0 := by decide +kernel
theorem dX8_isDigit_0 : decode cX8_isDigit 0 = .ok (.iload_n 0, 1) := dk_26 (dk_at dksX8_isDigit_0 0 rfl rfl)
theorem dX8_isDigit_1 : decode cX8_isDigit 1 = .ok (.bipush 48, 2) := dk_16 48 (dk_at dksX8_isDigit_0 1 rfl rfl)
theorem dX8_isDigit_3 : decode cX8_isDigit 3 = .ok (.if_icmp .lt 13, 3) := dk_161 0 13 (dk_at dksX8_isDigit_0 3 rfl rfl)
theorem dX8_isDigit_6 : decode cX8_isDigit 6 = .ok (.iload_n 0, 1) := dk_26 (dk_at dksX8_isDigit_0 6 rfl rfl)
theorem dX8_isDigit_7 : decode cX8_isDigit 7 = .ok (.bipush 57, 2) := dk_16 57 (dk_at dksX8_isDigit_0 7 rfl rfl)
theorem dX8_isDigit_9 : decode cX8_isDigit 9 = .ok (.if_icmp .gt 7, 3) := dk_163 0 7 (dk_at dksX8_isDigit_0 9 rfl rfl)
theorem dX8_isDigit_12 : decode cX8_isDigit 12 = .ok (.iconst 1, 1) := dk_4 (dk_at dksX8_isDigit_0 12 rfl rfl)
theorem dX8_isDigit_13 : decode cX8_isDigit 13 = .ok (.goto 4, 3) := dk_167 0 4 (dk_at dksX8_isDigit_0 13 rfl rfl)
theorem dX8_isDigit_16 : decode cX8_isDigit 16 = .ok (.iconst 0, 1) := dk_3 (dk_at dksX8_isDigit_0 16 rfl rfl)
theorem dX8_isDigit_17 : decode cX8_isDigit 17 = .ok (.ireturn, 1) := dk_172 (dk_at dksX8_isDigit_0 17 rfl rfl)
abbrev cX8_isSign : ByteArray := prog_29_method_15_code
def yX8_isSign : MethodName := ⟨RX8, "isSign", "(I)Z"⟩
def dkwX8_isSign_1 : List UInt8 := [26, 16, 43, 159, 0, 9, 26, 16, 45, 160, 0, 7, 4, 167, 0, 4, 3, 172]
abbrev dktX8_isSign_1 : List UInt8 := dkwX8_isSign_1 ++ []
def dkwX8_isSign_0 : List UInt8 := [26, 16, 59, 159, 0, 33, 26, 16, 60, 159, 0, 27, 26, 16, 61, 159, 0, 21, 26, 16, 62, 159, 0, 15]
abbrev dktX8_isSign_0 : List UInt8 := dkwX8_isSign_0 ++ dktX8_isSign_1
theorem dksX8_isSign_0 : cX8_isSign.data.toList.drop 0 = dktX8_isSign_0 := by decide +kernel
theorem dksX8_isSign_1 : cX8_isSign.data.toList.drop 24 = dktX8_isSign_1 := dk_seg dksX8_isSign_0 24 rfl rfl
theorem dX8_isSign_0 : decode cX8_isSign 0 = .ok (.iload_n 0, 1) := dk_26 (dk_at dksX8_isSign_0 0 rfl rfl)
theorem dX8_isSign_1 : decode cX8_isSign 1 = .ok (.bipush 59, 2) := dk_16 59 (dk_at dksX8_isSign_0 1 rfl rfl)
theorem dX8_isSign_3 : decode cX8_isSign 3 = .ok (.if_icmp .eq 33, 3) := dk_159 0 33 (dk_at dksX8_isSign_0 3 rfl rfl)
theorem dX8_isSign_6 : decode cX8_isSign 6 = .ok (.iload_n 0, 1) := dk_26 (dk_at dksX8_isSign_0 6 rfl rfl)
theorem dX8_isSign_7 : decode cX8_isSign 7 = .ok (.bipush 60, 2) := dk_16 60 (dk_at dksX8_isSign_0 7 rfl rfl)
theorem dX8_isSign_9 : decode cX8_isSign 9 = .ok (.if_icmp .eq 27, 3) := dk_159 0 27 (dk_at dksX8_isSign_0 9 rfl rfl)
theorem dX8_isSign_12 : decode cX8_isSign 12 = .ok (.iload_n 0, 1) := dk_26 (dk_at dksX8_isSign_0 12 rfl rfl)
theorem dX8_isSign_13 : decode cX8_isSign 13 = .ok (.bipush 61, 2) := dk_16 61 (dk_at dksX8_isSign_0 13 rfl rfl)
theorem dX8_isSign_15 : decode cX8_isSign 15 = .ok (.if_icmp .eq 21, 3) := dk_159 0 21 (dk_at dksX8_isSign_0 15 rfl rfl)
theorem dX8_isSign_18 : decode cX8_isSign 18 = .ok (.iload_n 0, 1) := dk_26 (dk_at dksX8_isSign_0 18 rfl rfl)
theorem dX8_isSign_19 : decode cX8_isSign 19 = .ok (.bipush 62, 2) := dk_16 62 (dk_at dksX8_isSign_0 19 rfl rfl)
theorem dX8_isSign_21 : decode cX8_isSign 21 = .ok (.if_icmp .eq 15, 3) := dk_159 0 15 (dk_at dksX8_isSign_0 21 rfl rfl)
theorem dX8_isSign_24 : decode cX8_isSign 24 = .ok (.iload_n 0, 1) := dk_26 (dk_at dksX8_isSign_1 0 rfl rfl)
theorem dX8_isSign_25 : decode cX8_isSign 25 = .ok (.bipush 43, 2) := dk_16 43 (dk_at dksX8_isSign_1 1 rfl rfl)
theorem dX8_isSign_27 : decode cX8_isSign 27 = .ok (.if_icmp .eq 9, 3) := dk_159 0 9 (dk_at dksX8_isSign_1 3 rfl rfl)
theorem dX8_isSign_30 : decode cX8_isSign 30 = .ok (.iload_n 0, 1) := dk_26 (dk_at dksX8_isSign_1 6 rfl rfl)
theorem dX8_isSign_31 : decode cX8_isSign 31 = .ok (.bipush 45, 2) := dk_16 45 (dk_at dksX8_isSign_1 7 rfl rfl)
theorem dX8_isSign_33 : decode cX8_isSign 33 = .ok (.if_icmp .ne 7, 3) := dk_160 0 7 (dk_at dksX8_isSign_1 9 rfl rfl)
theorem dX8_isSign_36 : decode cX8_isSign 36 = .ok (.iconst 1, 1) := dk_4 (dk_at dksX8_isSign_1 12 rfl rfl)
theorem dX8_isSign_37 : decode cX8_isSign 37 = .ok (.goto 4, 3) := dk_167 0 4 (dk_at dksX8_isSign_1 13 rfl rfl)
theorem dX8_isSign_40 : decode cX8_isSign 40 = .ok (.iconst 0, 1) := dk_3 (dk_at dksX8_isSign_1 16 rfl rfl)
theorem dX8_isSign_41 : decode cX8_isSign 41 = .ok (.ireturn, 1) := dk_172 (dk_at dksX8_isSign_1 17 rfl rfl)
abbrev cX8_readRule : ByteArray := prog_29_method_31_code
def yX8_readRule : MethodName := ⟨RX8, "readRule", "()V"⟩
def dkwX8_readRule_5 : List UInt8 := [180, 0, 30, 3, 92, 46, 4, 96, 79, 177]
abbrev dktX8_readRule_5 : List UInt8 := dkwX8_readRule_5 ++ []
def dkwX8_readRule_4 : List UInt8 := [42, 182, 0, 233, 42, 180, 0, 30, 29, 42, 180, 0, 160, 29, 100, 4, 100, 79, 42, 182, 0, 236, 42]
abbrev dktX8_readRule_4 : List UInt8 := dkwX8_readRule_4 ++ dktX8_readRule_5
def dkwX8_readRule_3 : List UInt8 := [62, 42, 3, 182, 0, 188, 42, 18, 231, 182, 0, 165, 153, 0, 16, 42, 182, 0, 154, 42, 3, 181, 0, 196]
abbrev dktX8_readRule_3 : List UInt8 := dkwX8_readRule_3 ++ dktX8_readRule_4
def dkwX8_readRule_2 : List UInt8 := [16, 99, 182, 0, 227, 167, 0, 4, 3, 61, 42, 27, 182, 0, 188, 42, 28, 182, 0, 188, 42, 180, 0, 160]
abbrev dktX8_readRule_2 : List UInt8 := dkwX8_readRule_2 ++ dktX8_readRule_3
def dkwX8_readRule_1 : List UInt8 := [160, 0, 7, 5, 167, 0, 4, 7, 182, 0, 150, 177, 42, 182, 0, 154, 27, 7, 162, 0, 13, 42, 3]
abbrev dktX8_readRule_1 : List UInt8 := dkwX8_readRule_1 ++ dktX8_readRule_2
def dkwX8_readRule_0 : List UInt8 := [42, 182, 0, 224, 60, 27, 2, 159, 0, 14, 42, 180, 0, 30, 3, 46, 16, 12, 160, 0, 18, 42, 27, 2]
abbrev dktX8_readRule_0 : List UInt8 := dkwX8_readRule_0 ++ dktX8_readRule_1
theorem dksX8_readRule_0 : cX8_readRule.data.toList.drop 0 = dktX8_readRule_0 := by decide +kernel
theorem dksX8_readRule_1 : cX8_readRule.data.toList.drop 24 = dktX8_readRule_1 := dk_seg dksX8_readRule_0 24 rfl rfl
theorem dksX8_readRule_2 : cX8_readRule.data.toList.drop 47 = dktX8_readRule_2 := dk_seg dksX8_readRule_1 23 rfl rfl
theorem dksX8_readRule_3 : cX8_readRule.data.toList.drop 71 = dktX8_readRule_3 := dk_seg dksX8_readRule_2 24 rfl rfl
theorem dksX8_readRule_4 : cX8_readRule.data.toList.drop 95 = dktX8_readRule_4 := dk_seg dksX8_readRule_3 24 rfl rfl
theorem dksX8_readRule_5 : cX8_readRule.data.toList.drop 118 = dktX8_readRule_5 := dk_seg dksX8_readRule_4 23 rfl rfl
theorem dX8_readRule_0 : decode cX8_readRule 0 = .ok (.aload_n 0, 1) := dk_42 (dk_at dksX8_readRule_0 0 rfl rfl)
theorem dX8_readRule_1 : decode cX8_readRule 1 = .ok (.invokevirtual 224, 3) := dk_182 0 224 (dk_at dksX8_readRule_0 1 rfl rfl)
theorem dX8_readRule_4 : decode cX8_readRule 4 = .ok (.istore_n 1, 1) := dk_60 (dk_at dksX8_readRule_0 4 rfl rfl)
theorem dX8_readRule_5 : decode cX8_readRule 5 = .ok (.iload_n 1, 1) := dk_27 (dk_at dksX8_readRule_0 5 rfl rfl)
theorem dX8_readRule_6 : decode cX8_readRule 6 = .ok (.iconst (-1), 1) := dk_2 (dk_at dksX8_readRule_0 6 rfl rfl)
theorem dX8_readRule_7 : decode cX8_readRule 7 = .ok (.if_icmp .eq 14, 3) := dk_159 0 14 (dk_at dksX8_readRule_0 7 rfl rfl)
theorem dX8_readRule_10 : decode cX8_readRule 10 = .ok (.aload_n 0, 1) := dk_42 (dk_at dksX8_readRule_0 10 rfl rfl)
theorem dX8_readRule_11 : decode cX8_readRule 11 = .ok (.getfield 30, 3) := dk_180 0 30 (dk_at dksX8_readRule_0 11 rfl rfl)
theorem dX8_readRule_14 : decode cX8_readRule 14 = .ok (.iconst 0, 1) := dk_3 (dk_at dksX8_readRule_0 14 rfl rfl)
theorem dX8_readRule_15 : decode cX8_readRule 15 = .ok (.iaload, 1) := dk_46 (dk_at dksX8_readRule_0 15 rfl rfl)
theorem dX8_readRule_16 : decode cX8_readRule 16 = .ok (.bipush 12, 2) := dk_16 12 (dk_at dksX8_readRule_0 16 rfl rfl)
theorem dX8_readRule_18 : decode cX8_readRule 18 = .ok (.if_icmp .ne 18, 3) := dk_160 0 18 (dk_at dksX8_readRule_0 18 rfl rfl)
theorem dX8_readRule_21 : decode cX8_readRule 21 = .ok (.aload_n 0, 1) := dk_42 (dk_at dksX8_readRule_0 21 rfl rfl)
theorem dX8_readRule_22 : decode cX8_readRule 22 = .ok (.iload_n 1, 1) := dk_27 (dk_at dksX8_readRule_0 22 rfl rfl)
theorem dX8_readRule_23 : decode cX8_readRule 23 = .ok (.iconst (-1), 1) := dk_2 (dk_at dksX8_readRule_0 23 rfl rfl)
theorem dX8_readRule_24 : decode cX8_readRule 24 = .ok (.if_icmp .ne 7, 3) := dk_160 0 7 (dk_at dksX8_readRule_1 0 rfl rfl)
theorem dX8_readRule_27 : decode cX8_readRule 27 = .ok (.iconst 2, 1) := dk_5 (dk_at dksX8_readRule_1 3 rfl rfl)
theorem dX8_readRule_28 : decode cX8_readRule 28 = .ok (.goto 4, 3) := dk_167 0 4 (dk_at dksX8_readRule_1 4 rfl rfl)
theorem dX8_readRule_31 : decode cX8_readRule 31 = .ok (.iconst 4, 1) := dk_7 (dk_at dksX8_readRule_1 7 rfl rfl)
theorem dX8_readRule_32 : decode cX8_readRule 32 = .ok (.invokevirtual 150, 3) := dk_182 0 150 (dk_at dksX8_readRule_1 8 rfl rfl)
theorem dX8_readRule_35 : decode cX8_readRule 35 = .ok (.return_, 1) := dk_177 (dk_at dksX8_readRule_1 11 rfl rfl)
theorem dX8_readRule_36 : decode cX8_readRule 36 = .ok (.aload_n 0, 1) := dk_42 (dk_at dksX8_readRule_1 12 rfl rfl)
theorem dX8_readRule_37 : decode cX8_readRule 37 = .ok (.invokevirtual 154, 3) := dk_182 0 154 (dk_at dksX8_readRule_1 13 rfl rfl)
theorem dX8_readRule_40 : decode cX8_readRule 40 = .ok (.iload_n 1, 1) := dk_27 (dk_at dksX8_readRule_1 16 rfl rfl)
theorem dX8_readRule_41 : decode cX8_readRule 41 = .ok (.iconst 4, 1) := dk_7 (dk_at dksX8_readRule_1 17 rfl rfl)
theorem dX8_readRule_42 : decode cX8_readRule 42 = .ok (.if_icmp .ge 13, 3) := dk_162 0 13 (dk_at dksX8_readRule_1 18 rfl rfl)
theorem dX8_readRule_45 : decode cX8_readRule 45 = .ok (.aload_n 0, 1) := dk_42 (dk_at dksX8_readRule_1 21 rfl rfl)
theorem dX8_readRule_46 : decode cX8_readRule 46 = .ok (.iconst 0, 1) := dk_3 (dk_at dksX8_readRule_1 22 rfl rfl)
theorem dX8_readRule_47 : decode cX8_readRule 47 = .ok (.bipush 99, 2) := dk_16 99 (dk_at dksX8_readRule_2 0 rfl rfl)
theorem dX8_readRule_49 : decode cX8_readRule 49 = .ok (.invokevirtual 227, 3) := dk_182 0 227 (dk_at dksX8_readRule_2 2 rfl rfl)
theorem dX8_readRule_52 : decode cX8_readRule 52 = .ok (.goto 4, 3) := dk_167 0 4 (dk_at dksX8_readRule_2 5 rfl rfl)
theorem dX8_readRule_55 : decode cX8_readRule 55 = .ok (.iconst 0, 1) := dk_3 (dk_at dksX8_readRule_2 8 rfl rfl)
theorem dX8_readRule_56 : decode cX8_readRule 56 = .ok (.istore_n 2, 1) := dk_61 (dk_at dksX8_readRule_2 9 rfl rfl)
theorem dX8_readRule_57 : decode cX8_readRule 57 = .ok (.aload_n 0, 1) := dk_42 (dk_at dksX8_readRule_2 10 rfl rfl)
theorem dX8_readRule_58 : decode cX8_readRule 58 = .ok (.iload_n 1, 1) := dk_27 (dk_at dksX8_readRule_2 11 rfl rfl)
theorem dX8_readRule_59 : decode cX8_readRule 59 = .ok (.invokevirtual 188, 3) := dk_182 0 188 (dk_at dksX8_readRule_2 12 rfl rfl)
theorem dX8_readRule_62 : decode cX8_readRule 62 = .ok (.aload_n 0, 1) := dk_42 (dk_at dksX8_readRule_2 15 rfl rfl)
theorem dX8_readRule_63 : decode cX8_readRule 63 = .ok (.iload_n 2, 1) := dk_28 (dk_at dksX8_readRule_2 16 rfl rfl)
theorem dX8_readRule_64 : decode cX8_readRule 64 = .ok (.invokevirtual 188, 3) := dk_182 0 188 (dk_at dksX8_readRule_2 17 rfl rfl)
theorem dX8_readRule_67 : decode cX8_readRule 67 = .ok (.aload_n 0, 1) := dk_42 (dk_at dksX8_readRule_2 20 rfl rfl)
theorem dX8_readRule_68 : decode cX8_readRule 68 = .ok (.getfield 160, 3) := dk_180 0 160 (dk_at dksX8_readRule_2 21 rfl rfl)
theorem dX8_readRule_71 : decode cX8_readRule 71 = .ok (.istore_n 3, 1) := dk_62 (dk_at dksX8_readRule_3 0 rfl rfl)
theorem dX8_readRule_72 : decode cX8_readRule 72 = .ok (.aload_n 0, 1) := dk_42 (dk_at dksX8_readRule_3 1 rfl rfl)
theorem dX8_readRule_73 : decode cX8_readRule 73 = .ok (.iconst 0, 1) := dk_3 (dk_at dksX8_readRule_3 2 rfl rfl)
theorem dX8_readRule_74 : decode cX8_readRule 74 = .ok (.invokevirtual 188, 3) := dk_182 0 188 (dk_at dksX8_readRule_3 3 rfl rfl)
theorem dX8_readRule_77 : decode cX8_readRule 77 = .ok (.aload_n 0, 1) := dk_42 (dk_at dksX8_readRule_3 6 rfl rfl)
theorem dX8_readRule_78 : decode cX8_readRule 78 = .ok (.ldc 231, 2) := dk_18 231 (dk_at dksX8_readRule_3 7 rfl rfl)
theorem dX8_readRule_80 : decode cX8_readRule 80 = .ok (.invokevirtual 165, 3) := dk_182 0 165 (dk_at dksX8_readRule_3 9 rfl rfl)
theorem dX8_readRule_83 : decode cX8_readRule 83 = .ok (.ifCond .eq 16, 3) := dk_153 0 16 (dk_at dksX8_readRule_3 12 rfl rfl)
theorem dX8_readRule_86 : decode cX8_readRule 86 = .ok (.aload_n 0, 1) := dk_42 (dk_at dksX8_readRule_3 15 rfl rfl)
theorem dX8_readRule_87 : decode cX8_readRule 87 = .ok (.invokevirtual 154, 3) := dk_182 0 154 (dk_at dksX8_readRule_3 16 rfl rfl)
theorem dX8_readRule_90 : decode cX8_readRule 90 = .ok (.aload_n 0, 1) := dk_42 (dk_at dksX8_readRule_3 19 rfl rfl)
theorem dX8_readRule_91 : decode cX8_readRule 91 = .ok (.iconst 0, 1) := dk_3 (dk_at dksX8_readRule_3 20 rfl rfl)
theorem dX8_readRule_92 : decode cX8_readRule 92 = .ok (.putfield 196, 3) := dk_181 0 196 (dk_at dksX8_readRule_3 21 rfl rfl)
theorem dX8_readRule_95 : decode cX8_readRule 95 = .ok (.aload_n 0, 1) := dk_42 (dk_at dksX8_readRule_4 0 rfl rfl)
theorem dX8_readRule_96 : decode cX8_readRule 96 = .ok (.invokevirtual 233, 3) := dk_182 0 233 (dk_at dksX8_readRule_4 1 rfl rfl)
theorem dX8_readRule_99 : decode cX8_readRule 99 = .ok (.aload_n 0, 1) := dk_42 (dk_at dksX8_readRule_4 4 rfl rfl)
theorem dX8_readRule_100 : decode cX8_readRule 100 = .ok (.getfield 30, 3) := dk_180 0 30 (dk_at dksX8_readRule_4 5 rfl rfl)
theorem dX8_readRule_103 : decode cX8_readRule 103 = .ok (.iload_n 3, 1) := dk_29 (dk_at dksX8_readRule_4 8 rfl rfl)
theorem dX8_readRule_104 : decode cX8_readRule 104 = .ok (.aload_n 0, 1) := dk_42 (dk_at dksX8_readRule_4 9 rfl rfl)
theorem dX8_readRule_105 : decode cX8_readRule 105 = .ok (.getfield 160, 3) := dk_180 0 160 (dk_at dksX8_readRule_4 10 rfl rfl)
theorem dX8_readRule_108 : decode cX8_readRule 108 = .ok (.iload_n 3, 1) := dk_29 (dk_at dksX8_readRule_4 13 rfl rfl)
theorem dX8_readRule_109 : decode cX8_readRule 109 = .ok (.isub, 1) := dk_100 (dk_at dksX8_readRule_4 14 rfl rfl)
theorem dX8_readRule_110 : decode cX8_readRule 110 = .ok (.iconst 1, 1) := dk_4 (dk_at dksX8_readRule_4 15 rfl rfl)
theorem dX8_readRule_111 : decode cX8_readRule 111 = .ok (.isub, 1) := dk_100 (dk_at dksX8_readRule_4 16 rfl rfl)
theorem dX8_readRule_112 : decode cX8_readRule 112 = .ok (.iastore, 1) := dk_79 (dk_at dksX8_readRule_4 17 rfl rfl)
theorem dX8_readRule_113 : decode cX8_readRule 113 = .ok (.aload_n 0, 1) := dk_42 (dk_at dksX8_readRule_4 18 rfl rfl)
theorem dX8_readRule_114 : decode cX8_readRule 114 = .ok (.invokevirtual 236, 3) := dk_182 0 236 (dk_at dksX8_readRule_4 19 rfl rfl)
theorem dX8_readRule_117 : decode cX8_readRule 117 = .ok (.aload_n 0, 1) := dk_42 (dk_at dksX8_readRule_4 22 rfl rfl)
theorem dX8_readRule_118 : decode cX8_readRule 118 = .ok (.getfield 30, 3) := dk_180 0 30 (dk_at dksX8_readRule_5 0 rfl rfl)
theorem dX8_readRule_121 : decode cX8_readRule 121 = .ok (.iconst 0, 1) := dk_3 (dk_at dksX8_readRule_5 3 rfl rfl)
theorem dX8_readRule_122 : decode cX8_readRule 122 = .ok (.dup2, 1) := dk_92 (dk_at dksX8_readRule_5 4 rfl rfl)
theorem dX8_readRule_123 : decode cX8_readRule 123 = .ok (.iaload, 1) := dk_46 (dk_at dksX8_readRule_5 5 rfl rfl)
theorem dX8_readRule_124 : decode cX8_readRule 124 = .ok (.iconst 1, 1) := dk_4 (dk_at dksX8_readRule_5 6 rfl rfl)
theorem dX8_readRule_125 : decode cX8_readRule 125 = .ok (.iadd, 1) := dk_96 (dk_at dksX8_readRule_5 7 rfl rfl)
theorem dX8_readRule_126 : decode cX8_readRule 126 = .ok (.iastore, 1) := dk_79 (dk_at dksX8_readRule_5 8 rfl rfl)
theorem dX8_readRule_127 : decode cX8_readRule 127 = .ok (.return_, 1) := dk_177 (dk_at dksX8_readRule_5 9 rfl rfl)
abbrev cX8_doing : ByteArray := prog_29_method_30_code
def yX8_doing : MethodName := ⟨RX8, "doing", "()I"⟩
def dkwX8_doing_3 : List UInt8 := [182, 0, 165, 153, 0, 7, 8, 167, 0, 4, 2, 172]
abbrev dktX8_doing_3 : List UInt8 := dkwX8_doing_3 ++ []
def dkwX8_doing_2 : List UInt8 := [153, 0, 7, 6, 167, 0, 30, 42, 18, 220, 182, 0, 165, 153, 0, 7, 7, 167, 0, 17, 42, 18, 222]
abbrev dktX8_doing_2 : List UInt8 := dkwX8_doing_2 ++ dktX8_doing_3
def dkwX8_doing_1 : List UInt8 := [167, 0, 56, 42, 18, 216, 182, 0, 165, 153, 0, 7, 5, 167, 0, 43, 42, 18, 218, 182, 0, 165]
abbrev dktX8_doing_1 : List UInt8 := dkwX8_doing_1 ++ dktX8_doing_2
def dkwX8_doing_0 : List UInt8 := [42, 18, 212, 182, 0, 165, 153, 0, 7, 3, 167, 0, 69, 42, 18, 214, 182, 0, 165, 153, 0, 7, 4]
abbrev dktX8_doing_0 : List UInt8 := dkwX8_doing_0 ++ dktX8_doing_1
theorem dksX8_doing_0 : cX8_doing.data.toList.drop 0 = dktX8_doing_0 := by decide +kernel
theorem dksX8_doing_1 : cX8_doing.data.toList.drop 23 = dktX8_doing_1 := dk_seg dksX8_doing_0 23 rfl rfl
theorem dksX8_doing_2 : cX8_doing.data.toList.drop 45 = dktX8_doing_2 := dk_seg dksX8_doing_1 22 rfl rfl
theorem dksX8_doing_3 : cX8_doing.data.toList.drop 68 = dktX8_doing_3 := dk_seg dksX8_doing_2 23 rfl rfl
theorem dX8_doing_0 : decode cX8_doing 0 = .ok (.aload_n 0, 1) := dk_42 (dk_at dksX8_doing_0 0 rfl rfl)
theorem dX8_doing_1 : decode cX8_doing 1 = .ok (.ldc 212, 2) := dk_18 212 (dk_at dksX8_doing_0 1 rfl rfl)
theorem dX8_doing_3 : decode cX8_doing 3 = .ok (.invokevirtual 165, 3) := dk_182 0 165 (dk_at dksX8_doing_0 3 rfl rfl)
theorem dX8_doing_6 : decode cX8_doing 6 = .ok (.ifCond .eq 7, 3) := dk_153 0 7 (dk_at dksX8_doing_0 6 rfl rfl)
theorem dX8_doing_9 : decode cX8_doing 9 = .ok (.iconst 0, 1) := dk_3 (dk_at dksX8_doing_0 9 rfl rfl)
theorem dX8_doing_10 : decode cX8_doing 10 = .ok (.goto 69, 3) := dk_167 0 69 (dk_at dksX8_doing_0 10 rfl rfl)
theorem dX8_doing_13 : decode cX8_doing 13 = .ok (.aload_n 0, 1) := dk_42 (dk_at dksX8_doing_0 13 rfl rfl)
theorem dX8_doing_14 : decode cX8_doing 14 = .ok (.ldc 214, 2) := dk_18 214 (dk_at dksX8_doing_0 14 rfl rfl)
theorem dX8_doing_16 : decode cX8_doing 16 = .ok (.invokevirtual 165, 3) := dk_182 0 165 (dk_at dksX8_doing_0 16 rfl rfl)
theorem dX8_doing_19 : decode cX8_doing 19 = .ok (.ifCond .eq 7, 3) := dk_153 0 7 (dk_at dksX8_doing_0 19 rfl rfl)
theorem dX8_doing_22 : decode cX8_doing 22 = .ok (.iconst 1, 1) := dk_4 (dk_at dksX8_doing_0 22 rfl rfl)
theorem dX8_doing_23 : decode cX8_doing 23 = .ok (.goto 56, 3) := dk_167 0 56 (dk_at dksX8_doing_1 0 rfl rfl)
theorem dX8_doing_26 : decode cX8_doing 26 = .ok (.aload_n 0, 1) := dk_42 (dk_at dksX8_doing_1 3 rfl rfl)
theorem dX8_doing_27 : decode cX8_doing 27 = .ok (.ldc 216, 2) := dk_18 216 (dk_at dksX8_doing_1 4 rfl rfl)
theorem dX8_doing_29 : decode cX8_doing 29 = .ok (.invokevirtual 165, 3) := dk_182 0 165 (dk_at dksX8_doing_1 6 rfl rfl)
theorem dX8_doing_32 : decode cX8_doing 32 = .ok (.ifCond .eq 7, 3) := dk_153 0 7 (dk_at dksX8_doing_1 9 rfl rfl)
theorem dX8_doing_35 : decode cX8_doing 35 = .ok (.iconst 2, 1) := dk_5 (dk_at dksX8_doing_1 12 rfl rfl)
theorem dX8_doing_36 : decode cX8_doing 36 = .ok (.goto 43, 3) := dk_167 0 43 (dk_at dksX8_doing_1 13 rfl rfl)
theorem dX8_doing_39 : decode cX8_doing 39 = .ok (.aload_n 0, 1) := dk_42 (dk_at dksX8_doing_1 16 rfl rfl)
theorem dX8_doing_40 : decode cX8_doing 40 = .ok (.ldc 218, 2) := dk_18 218 (dk_at dksX8_doing_1 17 rfl rfl)
theorem dX8_doing_42 : decode cX8_doing 42 = .ok (.invokevirtual 165, 3) := dk_182 0 165 (dk_at dksX8_doing_1 19 rfl rfl)
theorem dX8_doing_45 : decode cX8_doing 45 = .ok (.ifCond .eq 7, 3) := dk_153 0 7 (dk_at dksX8_doing_2 0 rfl rfl)
theorem dX8_doing_48 : decode cX8_doing 48 = .ok (.iconst 3, 1) := dk_6 (dk_at dksX8_doing_2 3 rfl rfl)
theorem dX8_doing_49 : decode cX8_doing 49 = .ok (.goto 30, 3) := dk_167 0 30 (dk_at dksX8_doing_2 4 rfl rfl)
theorem dX8_doing_52 : decode cX8_doing 52 = .ok (.aload_n 0, 1) := dk_42 (dk_at dksX8_doing_2 7 rfl rfl)
theorem dX8_doing_53 : decode cX8_doing 53 = .ok (.ldc 220, 2) := dk_18 220 (dk_at dksX8_doing_2 8 rfl rfl)
theorem dX8_doing_55 : decode cX8_doing 55 = .ok (.invokevirtual 165, 3) := dk_182 0 165 (dk_at dksX8_doing_2 10 rfl rfl)
theorem dX8_doing_58 : decode cX8_doing 58 = .ok (.ifCond .eq 7, 3) := dk_153 0 7 (dk_at dksX8_doing_2 13 rfl rfl)
theorem dX8_doing_61 : decode cX8_doing 61 = .ok (.iconst 4, 1) := dk_7 (dk_at dksX8_doing_2 16 rfl rfl)
theorem dX8_doing_62 : decode cX8_doing 62 = .ok (.goto 17, 3) := dk_167 0 17 (dk_at dksX8_doing_2 17 rfl rfl)
theorem dX8_doing_65 : decode cX8_doing 65 = .ok (.aload_n 0, 1) := dk_42 (dk_at dksX8_doing_2 20 rfl rfl)
theorem dX8_doing_66 : decode cX8_doing 66 = .ok (.ldc 222, 2) := dk_18 222 (dk_at dksX8_doing_2 21 rfl rfl)
theorem dX8_doing_68 : decode cX8_doing 68 = .ok (.invokevirtual 165, 3) := dk_182 0 165 (dk_at dksX8_doing_3 0 rfl rfl)
theorem dX8_doing_71 : decode cX8_doing 71 = .ok (.ifCond .eq 7, 3) := dk_153 0 7 (dk_at dksX8_doing_3 3 rfl rfl)
theorem dX8_doing_74 : decode cX8_doing 74 = .ok (.iconst 5, 1) := dk_8 (dk_at dksX8_doing_3 6 rfl rfl)
theorem dX8_doing_75 : decode cX8_doing 75 = .ok (.goto 4, 3) := dk_167 0 4 (dk_at dksX8_doing_3 7 rfl rfl)
theorem dX8_doing_78 : decode cX8_doing 78 = .ok (.iconst (-1), 1) := dk_2 (dk_at dksX8_doing_3 10 rfl rfl)
theorem dX8_doing_79 : decode cX8_doing 79 = .ok (.ireturn, 1) := dk_172 (dk_at dksX8_doing_3 11 rfl rfl)
abbrev cX8_isWord : ByteArray := prog_29_method_18_code
def yX8_isWord : MethodName := ⟨RX8, "isWord", "(Ljava/lang/String;)Z"⟩
def dkwX8_isWord_3 : List UInt8 := [167, 0, 4, 3, 61, 132, 3, 1, 167, 255, 216, 28, 172]
abbrev dktX8_isWord_3 : List UInt8 := dkwX8_isWord_3 ++ []
def dkwX8_isWord_2 : List UInt8 := [162, 0, 34, 42, 180, 0, 27, 42, 180, 0, 110, 29, 96, 46, 43, 29, 182, 0, 146, 160, 0, 7, 4]
abbrev dktX8_isWord_2 : List UInt8 := dkwX8_isWord_2 ++ dktX8_isWord_3
def dkwX8_isWord_1 : List UInt8 := [43, 182, 0, 140, 160, 0, 7, 4, 167, 0, 4, 3, 61, 3, 62, 28, 153, 0, 42, 29, 43, 182, 0, 140]
abbrev dktX8_isWord_1 : List UInt8 := dkwX8_isWord_1 ++ dktX8_isWord_2
def dkwX8_isWord_0 : List UInt8 := [42, 180, 0, 134, 154, 0, 31, 42, 180, 0, 116, 4, 160, 0, 23, 42, 180, 0, 107, 42, 180, 0, 110, 100]
abbrev dktX8_isWord_0 : List UInt8 := dkwX8_isWord_0 ++ dktX8_isWord_1
theorem dksX8_isWord_0 : cX8_isWord.data.toList.drop 0 = dktX8_isWord_0 := by decide +kernel
theorem dksX8_isWord_1 : cX8_isWord.data.toList.drop 24 = dktX8_isWord_1 := dk_seg dksX8_isWord_0 24 rfl rfl
theorem dksX8_isWord_2 : cX8_isWord.data.toList.drop 48 = dktX8_isWord_2 := dk_seg dksX8_isWord_1 24 rfl rfl
theorem dksX8_isWord_3 : cX8_isWord.data.toList.drop 71 = dktX8_isWord_3 := dk_seg dksX8_isWord_2 23 rfl rfl
theorem dX8_isWord_0 : decode cX8_isWord 0 = .ok (.aload_n 0, 1) := dk_42 (dk_at dksX8_isWord_0 0 rfl rfl)
theorem dX8_isWord_1 : decode cX8_isWord 1 = .ok (.getfield 134, 3) := dk_180 0 134 (dk_at dksX8_isWord_0 1 rfl rfl)
theorem dX8_isWord_4 : decode cX8_isWord 4 = .ok (.ifCond .ne 31, 3) := dk_154 0 31 (dk_at dksX8_isWord_0 4 rfl rfl)
theorem dX8_isWord_7 : decode cX8_isWord 7 = .ok (.aload_n 0, 1) := dk_42 (dk_at dksX8_isWord_0 7 rfl rfl)
theorem dX8_isWord_8 : decode cX8_isWord 8 = .ok (.getfield 116, 3) := dk_180 0 116 (dk_at dksX8_isWord_0 8 rfl rfl)
theorem dX8_isWord_11 : decode cX8_isWord 11 = .ok (.iconst 1, 1) := dk_4 (dk_at dksX8_isWord_0 11 rfl rfl)
theorem dX8_isWord_12 : decode cX8_isWord 12 = .ok (.if_icmp .ne 23, 3) := dk_160 0 23 (dk_at dksX8_isWord_0 12 rfl rfl)
theorem dX8_isWord_15 : decode cX8_isWord 15 = .ok (.aload_n 0, 1) := dk_42 (dk_at dksX8_isWord_0 15 rfl rfl)
theorem dX8_isWord_16 : decode cX8_isWord 16 = .ok (.getfield 107, 3) := dk_180 0 107 (dk_at dksX8_isWord_0 16 rfl rfl)
theorem dX8_isWord_19 : decode cX8_isWord 19 = .ok (.aload_n 0, 1) := dk_42 (dk_at dksX8_isWord_0 19 rfl rfl)
theorem dX8_isWord_20 : decode cX8_isWord 20 = .ok (.getfield 110, 3) := dk_180 0 110 (dk_at dksX8_isWord_0 20 rfl rfl)
theorem dX8_isWord_23 : decode cX8_isWord 23 = .ok (.isub, 1) := dk_100 (dk_at dksX8_isWord_0 23 rfl rfl)
theorem dX8_isWord_24 : decode cX8_isWord 24 = .ok (.aload_n 1, 1) := dk_43 (dk_at dksX8_isWord_1 0 rfl rfl)
theorem dX8_isWord_25 : decode cX8_isWord 25 = .ok (.invokevirtual 140, 3) := dk_182 0 140 (dk_at dksX8_isWord_1 1 rfl rfl)
theorem dX8_isWord_28 : decode cX8_isWord 28 = .ok (.if_icmp .ne 7, 3) := dk_160 0 7 (dk_at dksX8_isWord_1 4 rfl rfl)
theorem dX8_isWord_31 : decode cX8_isWord 31 = .ok (.iconst 1, 1) := dk_4 (dk_at dksX8_isWord_1 7 rfl rfl)
theorem dX8_isWord_32 : decode cX8_isWord 32 = .ok (.goto 4, 3) := dk_167 0 4 (dk_at dksX8_isWord_1 8 rfl rfl)
theorem dX8_isWord_35 : decode cX8_isWord 35 = .ok (.iconst 0, 1) := dk_3 (dk_at dksX8_isWord_1 11 rfl rfl)
theorem dX8_isWord_36 : decode cX8_isWord 36 = .ok (.istore_n 2, 1) := dk_61 (dk_at dksX8_isWord_1 12 rfl rfl)
theorem dX8_isWord_37 : decode cX8_isWord 37 = .ok (.iconst 0, 1) := dk_3 (dk_at dksX8_isWord_1 13 rfl rfl)
theorem dX8_isWord_38 : decode cX8_isWord 38 = .ok (.istore_n 3, 1) := dk_62 (dk_at dksX8_isWord_1 14 rfl rfl)
theorem dX8_isWord_39 : decode cX8_isWord 39 = .ok (.iload_n 2, 1) := dk_28 (dk_at dksX8_isWord_1 15 rfl rfl)
theorem dX8_isWord_40 : decode cX8_isWord 40 = .ok (.ifCond .eq 42, 3) := dk_153 0 42 (dk_at dksX8_isWord_1 16 rfl rfl)
theorem dX8_isWord_43 : decode cX8_isWord 43 = .ok (.iload_n 3, 1) := dk_29 (dk_at dksX8_isWord_1 19 rfl rfl)
theorem dX8_isWord_44 : decode cX8_isWord 44 = .ok (.aload_n 1, 1) := dk_43 (dk_at dksX8_isWord_1 20 rfl rfl)
theorem dX8_isWord_45 : decode cX8_isWord 45 = .ok (.invokevirtual 140, 3) := dk_182 0 140 (dk_at dksX8_isWord_1 21 rfl rfl)
theorem dX8_isWord_48 : decode cX8_isWord 48 = .ok (.if_icmp .ge 34, 3) := dk_162 0 34 (dk_at dksX8_isWord_2 0 rfl rfl)
theorem dX8_isWord_51 : decode cX8_isWord 51 = .ok (.aload_n 0, 1) := dk_42 (dk_at dksX8_isWord_2 3 rfl rfl)
theorem dX8_isWord_52 : decode cX8_isWord 52 = .ok (.getfield 27, 3) := dk_180 0 27 (dk_at dksX8_isWord_2 4 rfl rfl)
theorem dX8_isWord_55 : decode cX8_isWord 55 = .ok (.aload_n 0, 1) := dk_42 (dk_at dksX8_isWord_2 7 rfl rfl)
theorem dX8_isWord_56 : decode cX8_isWord 56 = .ok (.getfield 110, 3) := dk_180 0 110 (dk_at dksX8_isWord_2 8 rfl rfl)
theorem dX8_isWord_59 : decode cX8_isWord 59 = .ok (.iload_n 3, 1) := dk_29 (dk_at dksX8_isWord_2 11 rfl rfl)
theorem dX8_isWord_60 : decode cX8_isWord 60 = .ok (.iadd, 1) := dk_96 (dk_at dksX8_isWord_2 12 rfl rfl)
theorem dX8_isWord_61 : decode cX8_isWord 61 = .ok (.iaload, 1) := dk_46 (dk_at dksX8_isWord_2 13 rfl rfl)
theorem dX8_isWord_62 : decode cX8_isWord 62 = .ok (.aload_n 1, 1) := dk_43 (dk_at dksX8_isWord_2 14 rfl rfl)
theorem dX8_isWord_63 : decode cX8_isWord 63 = .ok (.iload_n 3, 1) := dk_29 (dk_at dksX8_isWord_2 15 rfl rfl)
theorem dX8_isWord_64 : decode cX8_isWord 64 = .ok (.invokevirtual 146, 3) := dk_182 0 146 (dk_at dksX8_isWord_2 16 rfl rfl)
theorem dX8_isWord_67 : decode cX8_isWord 67 = .ok (.if_icmp .ne 7, 3) := dk_160 0 7 (dk_at dksX8_isWord_2 19 rfl rfl)
theorem dX8_isWord_70 : decode cX8_isWord 70 = .ok (.iconst 1, 1) := dk_4 (dk_at dksX8_isWord_2 22 rfl rfl)
theorem dX8_isWord_71 : decode cX8_isWord 71 = .ok (.goto 4, 3) := dk_167 0 4 (dk_at dksX8_isWord_3 0 rfl rfl)
theorem dX8_isWord_74 : decode cX8_isWord 74 = .ok (.iconst 0, 1) := dk_3 (dk_at dksX8_isWord_3 3 rfl rfl)
theorem dX8_isWord_75 : decode cX8_isWord 75 = .ok (.istore_n 2, 1) := dk_61 (dk_at dksX8_isWord_3 4 rfl rfl)
theorem dX8_isWord_76 : decode cX8_isWord 76 = .ok (.iinc 3 1, 3) := dk_132 3 1 (dk_at dksX8_isWord_3 5 rfl rfl)
theorem dX8_isWord_79 : decode cX8_isWord 79 = .ok (.goto (-40), 3) := dk_167 255 216 (dk_at dksX8_isWord_3 8 rfl rfl)
theorem dX8_isWord_82 : decode cX8_isWord 82 = .ok (.iload_n 2, 1) := dk_28 (dk_at dksX8_isWord_3 11 rfl rfl)
theorem dX8_isWord_83 : decode cX8_isWord 83 = .ok (.ireturn, 1) := dk_172 (dk_at dksX8_isWord_3 12 rfl rfl)
abbrev cX8_blames : ByteArray := prog_29_method_17_code
def yX8_blames : MethodName := ⟨RX8, "blames", "(I)V"⟩
def dkwX8_blames_1 : List UInt8 := [181, 0, 134, 42, 42, 180, 0, 110, 181, 0, 137, 177]
abbrev dktX8_blames_1 : List UInt8 := dkwX8_blames_1 ++ []
def dkwX8_blames_0 : List UInt8 := [42, 180, 0, 134, 153, 0, 4, 177, 42, 42, 180, 0, 116, 7, 160, 0, 7, 4, 167, 0, 4, 27]
abbrev dktX8_blames_0 : List UInt8 := dkwX8_blames_0 ++ dktX8_blames_1
theorem dksX8_blames_0 : cX8_blames.data.toList.drop 0 = dktX8_blames_0 := by decide +kernel
theorem dksX8_blames_1 : cX8_blames.data.toList.drop 22 = dktX8_blames_1 := dk_seg dksX8_blames_0 22 rfl rfl
theorem dX8_blames_0 : decode cX8_blames 0 = .ok (.aload_n 0, 1) := dk_42 (dk_at dksX8_blames_0 0 rfl rfl)
theorem dX8_blames_1 : decode cX8_blames 1 = .ok (.getfield 134, 3) := dk_180 0 134 (dk_at dksX8_blames_0 1 rfl rfl)
theorem dX8_blames_4 : decode cX8_blames 4 = .ok (.ifCond .eq 4, 3) := dk_153 0 4 (dk_at dksX8_blames_0 4 rfl rfl)
theorem dX8_blames_7 : decode cX8_blames 7 = .ok (.return_, 1) := dk_177 (dk_at dksX8_blames_0 7 rfl rfl)
theorem dX8_blames_8 : decode cX8_blames 8 = .ok (.aload_n 0, 1) := dk_42 (dk_at dksX8_blames_0 8 rfl rfl)
theorem dX8_blames_9 : decode cX8_blames 9 = .ok (.aload_n 0, 1) := dk_42 (dk_at dksX8_blames_0 9 rfl rfl)
theorem dX8_blames_10 : decode cX8_blames 10 = .ok (.getfield 116, 3) := dk_180 0 116 (dk_at dksX8_blames_0 10 rfl rfl)
theorem dX8_blames_13 : decode cX8_blames 13 = .ok (.iconst 4, 1) := dk_7 (dk_at dksX8_blames_0 13 rfl rfl)
theorem dX8_blames_14 : decode cX8_blames 14 = .ok (.if_icmp .ne 7, 3) := dk_160 0 7 (dk_at dksX8_blames_0 14 rfl rfl)
theorem dX8_blames_17 : decode cX8_blames 17 = .ok (.iconst 1, 1) := dk_4 (dk_at dksX8_blames_0 17 rfl rfl)
theorem dX8_blames_18 : decode cX8_blames 18 = .ok (.goto 4, 3) := dk_167 0 4 (dk_at dksX8_blames_0 18 rfl rfl)
theorem dX8_blames_21 : decode cX8_blames 21 = .ok (.iload_n 1, 1) := dk_27 (dk_at dksX8_blames_0 21 rfl rfl)
theorem dX8_blames_22 : decode cX8_blames 22 = .ok (.putfield 134, 3) := dk_181 0 134 (dk_at dksX8_blames_1 0 rfl rfl)
theorem dX8_blames_25 : decode cX8_blames 25 = .ok (.aload_n 0, 1) := dk_42 (dk_at dksX8_blames_1 3 rfl rfl)
theorem dX8_blames_26 : decode cX8_blames 26 = .ok (.aload_n 0, 1) := dk_42 (dk_at dksX8_blames_1 4 rfl rfl)
theorem dX8_blames_27 : decode cX8_blames 27 = .ok (.getfield 110, 3) := dk_180 0 110 (dk_at dksX8_blames_1 5 rfl rfl)
theorem dX8_blames_30 : decode cX8_blames 30 = .ok (.putfield 137, 3) := dk_181 0 137 (dk_at dksX8_blames_1 8 rfl rfl)
theorem dX8_blames_33 : decode cX8_blames 33 = .ok (.return_, 1) := dk_177 (dk_at dksX8_blames_1 11 rfl rfl)
abbrev cX8_number : ByteArray := prog_29_method_19_code
def yX8_number : MethodName := ⟨RX8, "number", "(II)I"⟩
def dkwX8_number_2 : List UInt8 := [42, 182, 0, 154, 29, 172]
abbrev dktX8_number_2 : List UInt8 := dkwX8_number_2 ++ []
def dkwX8_number_1 : List UInt8 := [133, 184, 0, 79, 154, 0, 8, 42, 6, 182, 0, 150, 42, 180, 0, 128, 62, 42, 180, 0, 134, 154, 0, 7]
abbrev dktX8_number_1 : List UInt8 := dkwX8_number_1 ++ dktX8_number_2
def dkwX8_number_0 : List UInt8 := [42, 180, 0, 116, 5, 159, 0, 11, 42, 5, 182, 0, 150, 167, 0, 23, 42, 180, 0, 128, 133, 27, 133, 28]
abbrev dktX8_number_0 : List UInt8 := dkwX8_number_0 ++ dktX8_number_1
theorem dksX8_number_0 : cX8_number.data.toList.drop 0 = dktX8_number_0 := by decide +kernel
theorem dksX8_number_1 : cX8_number.data.toList.drop 24 = dktX8_number_1 := dk_seg dksX8_number_0 24 rfl rfl
theorem dksX8_number_2 : cX8_number.data.toList.drop 48 = dktX8_number_2 := dk_seg dksX8_number_1 24 rfl rfl
theorem dX8_number_0 : decode cX8_number 0 = .ok (.aload_n 0, 1) := dk_42 (dk_at dksX8_number_0 0 rfl rfl)
theorem dX8_number_1 : decode cX8_number 1 = .ok (.getfield 116, 3) := dk_180 0 116 (dk_at dksX8_number_0 1 rfl rfl)
theorem dX8_number_4 : decode cX8_number 4 = .ok (.iconst 2, 1) := dk_5 (dk_at dksX8_number_0 4 rfl rfl)
theorem dX8_number_5 : decode cX8_number 5 = .ok (.if_icmp .eq 11, 3) := dk_159 0 11 (dk_at dksX8_number_0 5 rfl rfl)
theorem dX8_number_8 : decode cX8_number 8 = .ok (.aload_n 0, 1) := dk_42 (dk_at dksX8_number_0 8 rfl rfl)
theorem dX8_number_9 : decode cX8_number 9 = .ok (.iconst 2, 1) := dk_5 (dk_at dksX8_number_0 9 rfl rfl)
theorem dX8_number_10 : decode cX8_number 10 = .ok (.invokevirtual 150, 3) := dk_182 0 150 (dk_at dksX8_number_0 10 rfl rfl)
theorem dX8_number_13 : decode cX8_number 13 = .ok (.goto 23, 3) := dk_167 0 23 (dk_at dksX8_number_0 13 rfl rfl)
theorem dX8_number_16 : decode cX8_number 16 = .ok (.aload_n 0, 1) := dk_42 (dk_at dksX8_number_0 16 rfl rfl)
theorem dX8_number_17 : decode cX8_number 17 = .ok (.getfield 128, 3) := dk_180 0 128 (dk_at dksX8_number_0 17 rfl rfl)
theorem dX8_number_20 : decode cX8_number 20 = .ok (.i2l, 1) := dk_133 (dk_at dksX8_number_0 20 rfl rfl)
theorem dX8_number_21 : decode cX8_number 21 = .ok (.iload_n 1, 1) := dk_27 (dk_at dksX8_number_0 21 rfl rfl)
theorem dX8_number_22 : decode cX8_number 22 = .ok (.i2l, 1) := dk_133 (dk_at dksX8_number_0 22 rfl rfl)
theorem dX8_number_23 : decode cX8_number 23 = .ok (.iload_n 2, 1) := dk_28 (dk_at dksX8_number_0 23 rfl rfl)
theorem dX8_number_24 : decode cX8_number 24 = .ok (.i2l, 1) := dk_133 (dk_at dksX8_number_1 0 rfl rfl)
theorem dX8_number_25 : decode cX8_number 25 = .ok (.invokestatic 79, 3) := dk_184 0 79 (dk_at dksX8_number_1 1 rfl rfl)
theorem dX8_number_28 : decode cX8_number 28 = .ok (.ifCond .ne 8, 3) := dk_154 0 8 (dk_at dksX8_number_1 4 rfl rfl)
theorem dX8_number_31 : decode cX8_number 31 = .ok (.aload_n 0, 1) := dk_42 (dk_at dksX8_number_1 7 rfl rfl)
theorem dX8_number_32 : decode cX8_number 32 = .ok (.iconst 3, 1) := dk_6 (dk_at dksX8_number_1 8 rfl rfl)
theorem dX8_number_33 : decode cX8_number 33 = .ok (.invokevirtual 150, 3) := dk_182 0 150 (dk_at dksX8_number_1 9 rfl rfl)
theorem dX8_number_36 : decode cX8_number 36 = .ok (.aload_n 0, 1) := dk_42 (dk_at dksX8_number_1 12 rfl rfl)
theorem dX8_number_37 : decode cX8_number 37 = .ok (.getfield 128, 3) := dk_180 0 128 (dk_at dksX8_number_1 13 rfl rfl)
theorem dX8_number_40 : decode cX8_number 40 = .ok (.istore_n 3, 1) := dk_62 (dk_at dksX8_number_1 16 rfl rfl)
theorem dX8_number_41 : decode cX8_number 41 = .ok (.aload_n 0, 1) := dk_42 (dk_at dksX8_number_1 17 rfl rfl)
theorem dX8_number_42 : decode cX8_number 42 = .ok (.getfield 134, 3) := dk_180 0 134 (dk_at dksX8_number_1 18 rfl rfl)
theorem dX8_number_45 : decode cX8_number 45 = .ok (.ifCond .ne 7, 3) := dk_154 0 7 (dk_at dksX8_number_1 21 rfl rfl)
theorem dX8_number_48 : decode cX8_number 48 = .ok (.aload_n 0, 1) := dk_42 (dk_at dksX8_number_2 0 rfl rfl)
theorem dX8_number_49 : decode cX8_number 49 = .ok (.invokevirtual 154, 3) := dk_182 0 154 (dk_at dksX8_number_2 1 rfl rfl)
theorem dX8_number_52 : decode cX8_number 52 = .ok (.iload_n 3, 1) := dk_29 (dk_at dksX8_number_2 4 rfl rfl)
theorem dX8_number_53 : decode cX8_number 53 = .ok (.ireturn, 1) := dk_172 (dk_at dksX8_number_2 5 rfl rfl)
abbrev cX8_puts : ByteArray := prog_29_method_23_code
def yX8_puts : MethodName := ⟨RX8, "puts", "(I)V"⟩
def dkwX8_puts_1 : List UInt8 := [96, 181, 0, 160, 177]
abbrev dktX8_puts_1 : List UInt8 := dkwX8_puts_1 ++ []
def dkwX8_puts_0 : List UInt8 := [42, 180, 0, 134, 153, 0, 4, 177, 42, 180, 0, 30, 42, 180, 0, 160, 27, 79, 42, 89, 180, 0, 160, 4]
abbrev dktX8_puts_0 : List UInt8 := dkwX8_puts_0 ++ dktX8_puts_1
theorem dksX8_puts_0 : cX8_puts.data.toList.drop 0 = dktX8_puts_0 := by decide +kernel
theorem dksX8_puts_1 : cX8_puts.data.toList.drop 24 = dktX8_puts_1 := dk_seg dksX8_puts_0 24 rfl rfl
theorem dX8_puts_0 : decode cX8_puts 0 = .ok (.aload_n 0, 1) := dk_42 (dk_at dksX8_puts_0 0 rfl rfl)
theorem dX8_puts_1 : decode cX8_puts 1 = .ok (.getfield 134, 3) := dk_180 0 134 (dk_at dksX8_puts_0 1 rfl rfl)
theorem dX8_puts_4 : decode cX8_puts 4 = .ok (.ifCond .eq 4, 3) := dk_153 0 4 (dk_at dksX8_puts_0 4 rfl rfl)
theorem dX8_puts_7 : decode cX8_puts 7 = .ok (.return_, 1) := dk_177 (dk_at dksX8_puts_0 7 rfl rfl)
theorem dX8_puts_8 : decode cX8_puts 8 = .ok (.aload_n 0, 1) := dk_42 (dk_at dksX8_puts_0 8 rfl rfl)
theorem dX8_puts_9 : decode cX8_puts 9 = .ok (.getfield 30, 3) := dk_180 0 30 (dk_at dksX8_puts_0 9 rfl rfl)
theorem dX8_puts_12 : decode cX8_puts 12 = .ok (.aload_n 0, 1) := dk_42 (dk_at dksX8_puts_0 12 rfl rfl)
theorem dX8_puts_13 : decode cX8_puts 13 = .ok (.getfield 160, 3) := dk_180 0 160 (dk_at dksX8_puts_0 13 rfl rfl)
theorem dX8_puts_16 : decode cX8_puts 16 = .ok (.iload_n 1, 1) := dk_27 (dk_at dksX8_puts_0 16 rfl rfl)
theorem dX8_puts_17 : decode cX8_puts 17 = .ok (.iastore, 1) := dk_79 (dk_at dksX8_puts_0 17 rfl rfl)
theorem dX8_puts_18 : decode cX8_puts 18 = .ok (.aload_n 0, 1) := dk_42 (dk_at dksX8_puts_0 18 rfl rfl)
theorem dX8_puts_19 : decode cX8_puts 19 = .ok (.dup, 1) := dk_89 (dk_at dksX8_puts_0 19 rfl rfl)
theorem dX8_puts_20 : decode cX8_puts 20 = .ok (.getfield 160, 3) := dk_180 0 160 (dk_at dksX8_puts_0 20 rfl rfl)
theorem dX8_puts_23 : decode cX8_puts 23 = .ok (.iconst 1, 1) := dk_4 (dk_at dksX8_puts_0 23 rfl rfl)
theorem dX8_puts_24 : decode cX8_puts 24 = .ok (.iadd, 1) := dk_96 (dk_at dksX8_puts_1 0 rfl rfl)
theorem dX8_puts_25 : decode cX8_puts 25 = .ok (.putfield 160, 3) := dk_181 0 160 (dk_at dksX8_puts_1 1 rfl rfl)
theorem dX8_puts_28 : decode cX8_puts 28 = .ok (.return_, 1) := dk_177 (dk_at dksX8_puts_1 4 rfl rfl)
abbrev cX8_readSome : ByteArray := prog_29_method_29_code
def yX8_readSome : MethodName := ⟨RX8, "readSome", "()V"⟩
def dkwX8_readSome_1 : List UInt8 := [182, 0, 188, 167, 255, 233, 177]
abbrev dktX8_readSome_1 : List UInt8 := dkwX8_readSome_1 ++ []
def dkwX8_readSome_0 : List UInt8 := [42, 182, 0, 207, 42, 18, 210, 182, 0, 165, 153, 0, 20, 42, 182, 0, 154, 42, 182, 0, 207, 42, 16, 117]
abbrev dktX8_readSome_0 : List UInt8 := dkwX8_readSome_0 ++ dktX8_readSome_1
theorem dksX8_readSome_0 : cX8_readSome.data.toList.drop 0 = dktX8_readSome_0 := by decide +kernel
theorem dksX8_readSome_1 : cX8_readSome.data.toList.drop 24 = dktX8_readSome_1 := dk_seg dksX8_readSome_0 24 rfl rfl
theorem dX8_readSome_0 : decode cX8_readSome 0 = .ok (.aload_n 0, 1) := dk_42 (dk_at dksX8_readSome_0 0 rfl rfl)
theorem dX8_readSome_1 : decode cX8_readSome 1 = .ok (.invokevirtual 207, 3) := dk_182 0 207 (dk_at dksX8_readSome_0 1 rfl rfl)
theorem dX8_readSome_4 : decode cX8_readSome 4 = .ok (.aload_n 0, 1) := dk_42 (dk_at dksX8_readSome_0 4 rfl rfl)
theorem dX8_readSome_5 : decode cX8_readSome 5 = .ok (.ldc 210, 2) := dk_18 210 (dk_at dksX8_readSome_0 5 rfl rfl)
theorem dX8_readSome_7 : decode cX8_readSome 7 = .ok (.invokevirtual 165, 3) := dk_182 0 165 (dk_at dksX8_readSome_0 7 rfl rfl)
theorem dX8_readSome_10 : decode cX8_readSome 10 = .ok (.ifCond .eq 20, 3) := dk_153 0 20 (dk_at dksX8_readSome_0 10 rfl rfl)
theorem dX8_readSome_13 : decode cX8_readSome 13 = .ok (.aload_n 0, 1) := dk_42 (dk_at dksX8_readSome_0 13 rfl rfl)
theorem dX8_readSome_14 : decode cX8_readSome 14 = .ok (.invokevirtual 154, 3) := dk_182 0 154 (dk_at dksX8_readSome_0 14 rfl rfl)
theorem dX8_readSome_17 : decode cX8_readSome 17 = .ok (.aload_n 0, 1) := dk_42 (dk_at dksX8_readSome_0 17 rfl rfl)
theorem dX8_readSome_18 : decode cX8_readSome 18 = .ok (.invokevirtual 207, 3) := dk_182 0 207 (dk_at dksX8_readSome_0 18 rfl rfl)
theorem dX8_readSome_21 : decode cX8_readSome 21 = .ok (.aload_n 0, 1) := dk_42 (dk_at dksX8_readSome_0 21 rfl rfl)
theorem dX8_readSome_22 : decode cX8_readSome 22 = .ok (.bipush 117, 2) := dk_16 117 (dk_at dksX8_readSome_0 22 rfl rfl)
theorem dX8_readSome_24 : decode cX8_readSome 24 = .ok (.invokevirtual 188, 3) := dk_182 0 188 (dk_at dksX8_readSome_1 0 rfl rfl)
theorem dX8_readSome_27 : decode cX8_readSome 27 = .ok (.goto (-23), 3) := dk_167 255 233 (dk_at dksX8_readSome_1 3 rfl rfl)
theorem dX8_readSome_30 : decode cX8_readSome 30 = .ok (.return_, 1) := dk_177 (dk_at dksX8_readSome_1 6 rfl rfl)
abbrev cX8_readAll : ByteArray := prog_29_method_28_code
def yX8_readAll : MethodName := ⟨RX8, "readAll", "()V"⟩
def dkwX8_readAll_1 : List UInt8 := [182, 0, 188, 167, 255, 233, 177]
abbrev dktX8_readAll_1 : List UInt8 := dkwX8_readAll_1 ++ []
def dkwX8_readAll_0 : List UInt8 := [42, 182, 0, 199, 42, 18, 205, 182, 0, 165, 153, 0, 20, 42, 182, 0, 154, 42, 182, 0, 199, 42, 16, 116]
abbrev dktX8_readAll_0 : List UInt8 := dkwX8_readAll_0 ++ dktX8_readAll_1
theorem dksX8_readAll_0 : cX8_readAll.data.toList.drop 0 = dktX8_readAll_0 := by decide +kernel
theorem dksX8_readAll_1 : cX8_readAll.data.toList.drop 24 = dktX8_readAll_1 := dk_seg dksX8_readAll_0 24 rfl rfl
theorem dX8_readAll_0 : decode cX8_readAll 0 = .ok (.aload_n 0, 1) := dk_42 (dk_at dksX8_readAll_0 0 rfl rfl)
theorem dX8_readAll_1 : decode cX8_readAll 1 = .ok (.invokevirtual 199, 3) := dk_182 0 199 (dk_at dksX8_readAll_0 1 rfl rfl)
theorem dX8_readAll_4 : decode cX8_readAll 4 = .ok (.aload_n 0, 1) := dk_42 (dk_at dksX8_readAll_0 4 rfl rfl)
theorem dX8_readAll_5 : decode cX8_readAll 5 = .ok (.ldc 205, 2) := dk_18 205 (dk_at dksX8_readAll_0 5 rfl rfl)
theorem dX8_readAll_7 : decode cX8_readAll 7 = .ok (.invokevirtual 165, 3) := dk_182 0 165 (dk_at dksX8_readAll_0 7 rfl rfl)
theorem dX8_readAll_10 : decode cX8_readAll 10 = .ok (.ifCond .eq 20, 3) := dk_153 0 20 (dk_at dksX8_readAll_0 10 rfl rfl)
theorem dX8_readAll_13 : decode cX8_readAll 13 = .ok (.aload_n 0, 1) := dk_42 (dk_at dksX8_readAll_0 13 rfl rfl)
theorem dX8_readAll_14 : decode cX8_readAll 14 = .ok (.invokevirtual 154, 3) := dk_182 0 154 (dk_at dksX8_readAll_0 14 rfl rfl)
theorem dX8_readAll_17 : decode cX8_readAll 17 = .ok (.aload_n 0, 1) := dk_42 (dk_at dksX8_readAll_0 17 rfl rfl)
theorem dX8_readAll_18 : decode cX8_readAll 18 = .ok (.invokevirtual 199, 3) := dk_182 0 199 (dk_at dksX8_readAll_0 18 rfl rfl)
theorem dX8_readAll_21 : decode cX8_readAll 21 = .ok (.aload_n 0, 1) := dk_42 (dk_at dksX8_readAll_0 21 rfl rfl)
theorem dX8_readAll_22 : decode cX8_readAll 22 = .ok (.bipush 116, 2) := dk_16 116 (dk_at dksX8_readAll_0 22 rfl rfl)
theorem dX8_readAll_24 : decode cX8_readAll 24 = .ok (.invokevirtual 188, 3) := dk_182 0 188 (dk_at dksX8_readAll_1 0 rfl rfl)
theorem dX8_readAll_27 : decode cX8_readAll 27 = .ok (.goto (-23), 3) := dk_167 255 233 (dk_at dksX8_readAll_1 3 rfl rfl)
theorem dX8_readAll_30 : decode cX8_readAll 30 = .ok (.return_, 1) := dk_177 (dk_at dksX8_readAll_1 6 rfl rfl)
abbrev cX8_readClause : ByteArray := prog_29_method_27_code
def yX8_readClause : MethodName := ⟨RX8, "readClause", "()V"⟩
def dkwX8_readClause_6 : List UInt8 := [167, 0, 5, 16, 114, 182, 0, 188, 177]
abbrev dktX8_readClause_6 : List UInt8 := dkwX8_readClause_6 ++ []
def dkwX8_readClause_5 : List UInt8 := [182, 0, 202, 42, 27, 16, 60, 160, 0, 8, 16, 112, 167, 0, 16, 27, 16, 61, 160, 0, 8, 16, 113]
abbrev dktX8_readClause_5 : List UInt8 := dkwX8_readClause_5 ++ dktX8_readClause_6
def dkwX8_readClause_4 : List UInt8 := [27, 16, 62, 159, 0, 8, 42, 5, 182, 0, 150, 42, 180, 0, 134, 153, 0, 4, 177, 42, 182, 0, 154, 42]
abbrev dktX8_readClause_4 : List UInt8 := dkwX8_readClause_4 ++ dktX8_readClause_5
def dkwX8_readClause_3 : List UInt8 := [42, 180, 0, 113, 60, 42, 180, 0, 134, 154, 0, 26, 27, 16, 60, 159, 0, 20, 27, 16, 61, 159, 0, 14]
abbrev dktX8_readClause_3 : List UInt8 := dkwX8_readClause_3 ++ dktX8_readClause_4
def dkwX8_readClause_2 : List UInt8 := [182, 0, 199, 42, 89, 180, 0, 196, 4, 100, 181, 0, 196, 42, 16, 115, 182, 0, 188, 177, 42, 182, 0, 202]
abbrev dktX8_readClause_2 : List UInt8 := dkwX8_readClause_2 ++ dktX8_readClause_3
def dkwX8_readClause_1 : List UInt8 := [160, 0, 9, 42, 7, 182, 0, 150, 177, 42, 89, 180, 0, 196, 4, 96, 181, 0, 196, 42, 182, 0, 154, 42]
abbrev dktX8_readClause_1 : List UInt8 := dkwX8_readClause_1 ++ dktX8_readClause_2
def dkwX8_readClause_0 : List UInt8 := [42, 180, 0, 134, 153, 0, 4, 177, 42, 18, 194, 182, 0, 165, 153, 0, 52, 42, 180, 0, 196, 7]
abbrev dktX8_readClause_0 : List UInt8 := dkwX8_readClause_0 ++ dktX8_readClause_1
theorem dksX8_readClause_0 : cX8_readClause.data.toList.drop 0 = dktX8_readClause_0 := by decide +kernel
theorem dksX8_readClause_1 : cX8_readClause.data.toList.drop 22 = dktX8_readClause_1 := dk_seg dksX8_readClause_0 22 rfl rfl
theorem dksX8_readClause_2 : cX8_readClause.data.toList.drop 46 = dktX8_readClause_2 := dk_seg dksX8_readClause_1 24 rfl rfl
theorem dksX8_readClause_3 : cX8_readClause.data.toList.drop 70 = dktX8_readClause_3 := dk_seg dksX8_readClause_2 24 rfl rfl
theorem dksX8_readClause_4 : cX8_readClause.data.toList.drop 94 = dktX8_readClause_4 := dk_seg dksX8_readClause_3 24 rfl rfl
theorem dksX8_readClause_5 : cX8_readClause.data.toList.drop 118 = dktX8_readClause_5 := dk_seg dksX8_readClause_4 24 rfl rfl
theorem dksX8_readClause_6 : cX8_readClause.data.toList.drop 141 = dktX8_readClause_6 := dk_seg dksX8_readClause_5 23 rfl rfl
theorem dX8_readClause_0 : decode cX8_readClause 0 = .ok (.aload_n 0, 1) := dk_42 (dk_at dksX8_readClause_0 0 rfl rfl)
theorem dX8_readClause_1 : decode cX8_readClause 1 = .ok (.getfield 134, 3) := dk_180 0 134 (dk_at dksX8_readClause_0 1 rfl rfl)
theorem dX8_readClause_4 : decode cX8_readClause 4 = .ok (.ifCond .eq 4, 3) := dk_153 0 4 (dk_at dksX8_readClause_0 4 rfl rfl)
theorem dX8_readClause_7 : decode cX8_readClause 7 = .ok (.return_, 1) := dk_177 (dk_at dksX8_readClause_0 7 rfl rfl)
theorem dX8_readClause_8 : decode cX8_readClause 8 = .ok (.aload_n 0, 1) := dk_42 (dk_at dksX8_readClause_0 8 rfl rfl)
theorem dX8_readClause_9 : decode cX8_readClause 9 = .ok (.ldc 194, 2) := dk_18 194 (dk_at dksX8_readClause_0 9 rfl rfl)
theorem dX8_readClause_11 : decode cX8_readClause 11 = .ok (.invokevirtual 165, 3) := dk_182 0 165 (dk_at dksX8_readClause_0 11 rfl rfl)
theorem dX8_readClause_14 : decode cX8_readClause 14 = .ok (.ifCond .eq 52, 3) := dk_153 0 52 (dk_at dksX8_readClause_0 14 rfl rfl)
theorem dX8_readClause_17 : decode cX8_readClause 17 = .ok (.aload_n 0, 1) := dk_42 (dk_at dksX8_readClause_0 17 rfl rfl)
theorem dX8_readClause_18 : decode cX8_readClause 18 = .ok (.getfield 196, 3) := dk_180 0 196 (dk_at dksX8_readClause_0 18 rfl rfl)
theorem dX8_readClause_21 : decode cX8_readClause 21 = .ok (.iconst 4, 1) := dk_7 (dk_at dksX8_readClause_0 21 rfl rfl)
theorem dX8_readClause_22 : decode cX8_readClause 22 = .ok (.if_icmp .ne 9, 3) := dk_160 0 9 (dk_at dksX8_readClause_1 0 rfl rfl)
theorem dX8_readClause_25 : decode cX8_readClause 25 = .ok (.aload_n 0, 1) := dk_42 (dk_at dksX8_readClause_1 3 rfl rfl)
theorem dX8_readClause_26 : decode cX8_readClause 26 = .ok (.iconst 4, 1) := dk_7 (dk_at dksX8_readClause_1 4 rfl rfl)
theorem dX8_readClause_27 : decode cX8_readClause 27 = .ok (.invokevirtual 150, 3) := dk_182 0 150 (dk_at dksX8_readClause_1 5 rfl rfl)
theorem dX8_readClause_30 : decode cX8_readClause 30 = .ok (.return_, 1) := dk_177 (dk_at dksX8_readClause_1 8 rfl rfl)
theorem dX8_readClause_31 : decode cX8_readClause 31 = .ok (.aload_n 0, 1) := dk_42 (dk_at dksX8_readClause_1 9 rfl rfl)
theorem dX8_readClause_32 : decode cX8_readClause 32 = .ok (.dup, 1) := dk_89 (dk_at dksX8_readClause_1 10 rfl rfl)
theorem dX8_readClause_33 : decode cX8_readClause 33 = .ok (.getfield 196, 3) := dk_180 0 196 (dk_at dksX8_readClause_1 11 rfl rfl)
theorem dX8_readClause_36 : decode cX8_readClause 36 = .ok (.iconst 1, 1) := dk_4 (dk_at dksX8_readClause_1 14 rfl rfl)
theorem dX8_readClause_37 : decode cX8_readClause 37 = .ok (.iadd, 1) := dk_96 (dk_at dksX8_readClause_1 15 rfl rfl)
theorem dX8_readClause_38 : decode cX8_readClause 38 = .ok (.putfield 196, 3) := dk_181 0 196 (dk_at dksX8_readClause_1 16 rfl rfl)
theorem dX8_readClause_41 : decode cX8_readClause 41 = .ok (.aload_n 0, 1) := dk_42 (dk_at dksX8_readClause_1 19 rfl rfl)
theorem dX8_readClause_42 : decode cX8_readClause 42 = .ok (.invokevirtual 154, 3) := dk_182 0 154 (dk_at dksX8_readClause_1 20 rfl rfl)
theorem dX8_readClause_45 : decode cX8_readClause 45 = .ok (.aload_n 0, 1) := dk_42 (dk_at dksX8_readClause_1 23 rfl rfl)
theorem dX8_readClause_46 : decode cX8_readClause 46 = .ok (.invokevirtual 199, 3) := dk_182 0 199 (dk_at dksX8_readClause_2 0 rfl rfl)
theorem dX8_readClause_49 : decode cX8_readClause 49 = .ok (.aload_n 0, 1) := dk_42 (dk_at dksX8_readClause_2 3 rfl rfl)
theorem dX8_readClause_50 : decode cX8_readClause 50 = .ok (.dup, 1) := dk_89 (dk_at dksX8_readClause_2 4 rfl rfl)
theorem dX8_readClause_51 : decode cX8_readClause 51 = .ok (.getfield 196, 3) := dk_180 0 196 (dk_at dksX8_readClause_2 5 rfl rfl)
theorem dX8_readClause_54 : decode cX8_readClause 54 = .ok (.iconst 1, 1) := dk_4 (dk_at dksX8_readClause_2 8 rfl rfl)
theorem dX8_readClause_55 : decode cX8_readClause 55 = .ok (.isub, 1) := dk_100 (dk_at dksX8_readClause_2 9 rfl rfl)
theorem dX8_readClause_56 : decode cX8_readClause 56 = .ok (.putfield 196, 3) := dk_181 0 196 (dk_at dksX8_readClause_2 10 rfl rfl)
theorem dX8_readClause_59 : decode cX8_readClause 59 = .ok (.aload_n 0, 1) := dk_42 (dk_at dksX8_readClause_2 13 rfl rfl)
theorem dX8_readClause_60 : decode cX8_readClause 60 = .ok (.bipush 115, 2) := dk_16 115 (dk_at dksX8_readClause_2 14 rfl rfl)
theorem dX8_readClause_62 : decode cX8_readClause 62 = .ok (.invokevirtual 188, 3) := dk_182 0 188 (dk_at dksX8_readClause_2 16 rfl rfl)
theorem dX8_readClause_65 : decode cX8_readClause 65 = .ok (.return_, 1) := dk_177 (dk_at dksX8_readClause_2 19 rfl rfl)
theorem dX8_readClause_66 : decode cX8_readClause 66 = .ok (.aload_n 0, 1) := dk_42 (dk_at dksX8_readClause_2 20 rfl rfl)
theorem dX8_readClause_67 : decode cX8_readClause 67 = .ok (.invokevirtual 202, 3) := dk_182 0 202 (dk_at dksX8_readClause_2 21 rfl rfl)
theorem dX8_readClause_70 : decode cX8_readClause 70 = .ok (.aload_n 0, 1) := dk_42 (dk_at dksX8_readClause_3 0 rfl rfl)
theorem dX8_readClause_71 : decode cX8_readClause 71 = .ok (.getfield 113, 3) := dk_180 0 113 (dk_at dksX8_readClause_3 1 rfl rfl)
theorem dX8_readClause_74 : decode cX8_readClause 74 = .ok (.istore_n 1, 1) := dk_60 (dk_at dksX8_readClause_3 4 rfl rfl)
theorem dX8_readClause_75 : decode cX8_readClause 75 = .ok (.aload_n 0, 1) := dk_42 (dk_at dksX8_readClause_3 5 rfl rfl)
theorem dX8_readClause_76 : decode cX8_readClause 76 = .ok (.getfield 134, 3) := dk_180 0 134 (dk_at dksX8_readClause_3 6 rfl rfl)
theorem dX8_readClause_79 : decode cX8_readClause 79 = .ok (.ifCond .ne 26, 3) := dk_154 0 26 (dk_at dksX8_readClause_3 9 rfl rfl)
theorem dX8_readClause_82 : decode cX8_readClause 82 = .ok (.iload_n 1, 1) := dk_27 (dk_at dksX8_readClause_3 12 rfl rfl)
theorem dX8_readClause_83 : decode cX8_readClause 83 = .ok (.bipush 60, 2) := dk_16 60 (dk_at dksX8_readClause_3 13 rfl rfl)
theorem dX8_readClause_85 : decode cX8_readClause 85 = .ok (.if_icmp .eq 20, 3) := dk_159 0 20 (dk_at dksX8_readClause_3 15 rfl rfl)
theorem dX8_readClause_88 : decode cX8_readClause 88 = .ok (.iload_n 1, 1) := dk_27 (dk_at dksX8_readClause_3 18 rfl rfl)
theorem dX8_readClause_89 : decode cX8_readClause 89 = .ok (.bipush 61, 2) := dk_16 61 (dk_at dksX8_readClause_3 19 rfl rfl)
theorem dX8_readClause_91 : decode cX8_readClause 91 = .ok (.if_icmp .eq 14, 3) := dk_159 0 14 (dk_at dksX8_readClause_3 21 rfl rfl)
theorem dX8_readClause_94 : decode cX8_readClause 94 = .ok (.iload_n 1, 1) := dk_27 (dk_at dksX8_readClause_4 0 rfl rfl)
theorem dX8_readClause_95 : decode cX8_readClause 95 = .ok (.bipush 62, 2) := dk_16 62 (dk_at dksX8_readClause_4 1 rfl rfl)
theorem dX8_readClause_97 : decode cX8_readClause 97 = .ok (.if_icmp .eq 8, 3) := dk_159 0 8 (dk_at dksX8_readClause_4 3 rfl rfl)
theorem dX8_readClause_100 : decode cX8_readClause 100 = .ok (.aload_n 0, 1) := dk_42 (dk_at dksX8_readClause_4 6 rfl rfl)
theorem dX8_readClause_101 : decode cX8_readClause 101 = .ok (.iconst 2, 1) := dk_5 (dk_at dksX8_readClause_4 7 rfl rfl)
theorem dX8_readClause_102 : decode cX8_readClause 102 = .ok (.invokevirtual 150, 3) := dk_182 0 150 (dk_at dksX8_readClause_4 8 rfl rfl)
theorem dX8_readClause_105 : decode cX8_readClause 105 = .ok (.aload_n 0, 1) := dk_42 (dk_at dksX8_readClause_4 11 rfl rfl)
theorem dX8_readClause_106 : decode cX8_readClause 106 = .ok (.getfield 134, 3) := dk_180 0 134 (dk_at dksX8_readClause_4 12 rfl rfl)
theorem dX8_readClause_109 : decode cX8_readClause 109 = .ok (.ifCond .eq 4, 3) := dk_153 0 4 (dk_at dksX8_readClause_4 15 rfl rfl)
theorem dX8_readClause_112 : decode cX8_readClause 112 = .ok (.return_, 1) := dk_177 (dk_at dksX8_readClause_4 18 rfl rfl)
theorem dX8_readClause_113 : decode cX8_readClause 113 = .ok (.aload_n 0, 1) := dk_42 (dk_at dksX8_readClause_4 19 rfl rfl)
theorem dX8_readClause_114 : decode cX8_readClause 114 = .ok (.invokevirtual 154, 3) := dk_182 0 154 (dk_at dksX8_readClause_4 20 rfl rfl)
theorem dX8_readClause_117 : decode cX8_readClause 117 = .ok (.aload_n 0, 1) := dk_42 (dk_at dksX8_readClause_4 23 rfl rfl)
theorem dX8_readClause_118 : decode cX8_readClause 118 = .ok (.invokevirtual 202, 3) := dk_182 0 202 (dk_at dksX8_readClause_5 0 rfl rfl)
theorem dX8_readClause_121 : decode cX8_readClause 121 = .ok (.aload_n 0, 1) := dk_42 (dk_at dksX8_readClause_5 3 rfl rfl)
theorem dX8_readClause_122 : decode cX8_readClause 122 = .ok (.iload_n 1, 1) := dk_27 (dk_at dksX8_readClause_5 4 rfl rfl)
theorem dX8_readClause_123 : decode cX8_readClause 123 = .ok (.bipush 60, 2) := dk_16 60 (dk_at dksX8_readClause_5 5 rfl rfl)
theorem dX8_readClause_125 : decode cX8_readClause 125 = .ok (.if_icmp .ne 8, 3) := dk_160 0 8 (dk_at dksX8_readClause_5 7 rfl rfl)
theorem dX8_readClause_128 : decode cX8_readClause 128 = .ok (.bipush 112, 2) := dk_16 112 (dk_at dksX8_readClause_5 10 rfl rfl)
theorem dX8_readClause_130 : decode cX8_readClause 130 = .ok (.goto 16, 3) := dk_167 0 16 (dk_at dksX8_readClause_5 12 rfl rfl)
theorem dX8_readClause_133 : decode cX8_readClause 133 = .ok (.iload_n 1, 1) := dk_27 (dk_at dksX8_readClause_5 15 rfl rfl)
theorem dX8_readClause_134 : decode cX8_readClause 134 = .ok (.bipush 61, 2) := dk_16 61 (dk_at dksX8_readClause_5 16 rfl rfl)
theorem dX8_readClause_136 : decode cX8_readClause 136 = .ok (.if_icmp .ne 8, 3) := dk_160 0 8 (dk_at dksX8_readClause_5 18 rfl rfl)
theorem dX8_readClause_139 : decode cX8_readClause 139 = .ok (.bipush 113, 2) := dk_16 113 (dk_at dksX8_readClause_5 21 rfl rfl)
theorem dX8_readClause_141 : decode cX8_readClause 141 = .ok (.goto 5, 3) := dk_167 0 5 (dk_at dksX8_readClause_6 0 rfl rfl)
theorem dX8_readClause_144 : decode cX8_readClause 144 = .ok (.bipush 114, 2) := dk_16 114 (dk_at dksX8_readClause_6 3 rfl rfl)
theorem dX8_readClause_146 : decode cX8_readClause 146 = .ok (.invokevirtual 188, 3) := dk_182 0 188 (dk_at dksX8_readClause_6 5 rfl rfl)
theorem dX8_readClause_149 : decode cX8_readClause 149 = .ok (.return_, 1) := dk_177 (dk_at dksX8_readClause_6 8 rfl rfl)
abbrev cX8_readSum : ByteArray := prog_29_method_26_code
def yX8_readSum : MethodName := ⟨RX8, "readSum", "()V"⟩
def dkwX8_readSum_2 : List UInt8 := [160, 0, 8, 16, 110, 167, 0, 5, 16, 111, 182, 0, 188, 167, 255, 201, 177]
abbrev dktX8_readSum_2 : List UInt8 := dkwX8_readSum_2 ++ []
def dkwX8_readSum_1 : List UInt8 := [16, 45, 160, 0, 36, 42, 180, 0, 113, 60, 42, 182, 0, 154, 42, 182, 0, 191, 42, 27, 16, 43]
abbrev dktX8_readSum_1 : List UInt8 := dkwX8_readSum_1 ++ dktX8_readSum_2
def dkwX8_readSum_0 : List UInt8 := [42, 182, 0, 191, 42, 180, 0, 134, 154, 0, 54, 42, 180, 0, 113, 16, 43, 159, 0, 12, 42, 180, 0, 113]
abbrev dktX8_readSum_0 : List UInt8 := dkwX8_readSum_0 ++ dktX8_readSum_1
theorem dksX8_readSum_0 : cX8_readSum.data.toList.drop 0 = dktX8_readSum_0 := by decide +kernel
theorem dksX8_readSum_1 : cX8_readSum.data.toList.drop 24 = dktX8_readSum_1 := dk_seg dksX8_readSum_0 24 rfl rfl
theorem dksX8_readSum_2 : cX8_readSum.data.toList.drop 46 = dktX8_readSum_2 := dk_seg dksX8_readSum_1 22 rfl rfl
theorem dX8_readSum_0 : decode cX8_readSum 0 = .ok (.aload_n 0, 1) := dk_42 (dk_at dksX8_readSum_0 0 rfl rfl)
theorem dX8_readSum_1 : decode cX8_readSum 1 = .ok (.invokevirtual 191, 3) := dk_182 0 191 (dk_at dksX8_readSum_0 1 rfl rfl)
theorem dX8_readSum_4 : decode cX8_readSum 4 = .ok (.aload_n 0, 1) := dk_42 (dk_at dksX8_readSum_0 4 rfl rfl)
theorem dX8_readSum_5 : decode cX8_readSum 5 = .ok (.getfield 134, 3) := dk_180 0 134 (dk_at dksX8_readSum_0 5 rfl rfl)
theorem dX8_readSum_8 : decode cX8_readSum 8 = .ok (.ifCond .ne 54, 3) := dk_154 0 54 (dk_at dksX8_readSum_0 8 rfl rfl)
theorem dX8_readSum_11 : decode cX8_readSum 11 = .ok (.aload_n 0, 1) := dk_42 (dk_at dksX8_readSum_0 11 rfl rfl)
theorem dX8_readSum_12 : decode cX8_readSum 12 = .ok (.getfield 113, 3) := dk_180 0 113 (dk_at dksX8_readSum_0 12 rfl rfl)
theorem dX8_readSum_15 : decode cX8_readSum 15 = .ok (.bipush 43, 2) := dk_16 43 (dk_at dksX8_readSum_0 15 rfl rfl)
theorem dX8_readSum_17 : decode cX8_readSum 17 = .ok (.if_icmp .eq 12, 3) := dk_159 0 12 (dk_at dksX8_readSum_0 17 rfl rfl)
theorem dX8_readSum_20 : decode cX8_readSum 20 = .ok (.aload_n 0, 1) := dk_42 (dk_at dksX8_readSum_0 20 rfl rfl)
theorem dX8_readSum_21 : decode cX8_readSum 21 = .ok (.getfield 113, 3) := dk_180 0 113 (dk_at dksX8_readSum_0 21 rfl rfl)
theorem dX8_readSum_24 : decode cX8_readSum 24 = .ok (.bipush 45, 2) := dk_16 45 (dk_at dksX8_readSum_1 0 rfl rfl)
theorem dX8_readSum_26 : decode cX8_readSum 26 = .ok (.if_icmp .ne 36, 3) := dk_160 0 36 (dk_at dksX8_readSum_1 2 rfl rfl)
theorem dX8_readSum_29 : decode cX8_readSum 29 = .ok (.aload_n 0, 1) := dk_42 (dk_at dksX8_readSum_1 5 rfl rfl)
theorem dX8_readSum_30 : decode cX8_readSum 30 = .ok (.getfield 113, 3) := dk_180 0 113 (dk_at dksX8_readSum_1 6 rfl rfl)
theorem dX8_readSum_33 : decode cX8_readSum 33 = .ok (.istore_n 1, 1) := dk_60 (dk_at dksX8_readSum_1 9 rfl rfl)
theorem dX8_readSum_34 : decode cX8_readSum 34 = .ok (.aload_n 0, 1) := dk_42 (dk_at dksX8_readSum_1 10 rfl rfl)
theorem dX8_readSum_35 : decode cX8_readSum 35 = .ok (.invokevirtual 154, 3) := dk_182 0 154 (dk_at dksX8_readSum_1 11 rfl rfl)
theorem dX8_readSum_38 : decode cX8_readSum 38 = .ok (.aload_n 0, 1) := dk_42 (dk_at dksX8_readSum_1 14 rfl rfl)
theorem dX8_readSum_39 : decode cX8_readSum 39 = .ok (.invokevirtual 191, 3) := dk_182 0 191 (dk_at dksX8_readSum_1 15 rfl rfl)
theorem dX8_readSum_42 : decode cX8_readSum 42 = .ok (.aload_n 0, 1) := dk_42 (dk_at dksX8_readSum_1 18 rfl rfl)
theorem dX8_readSum_43 : decode cX8_readSum 43 = .ok (.iload_n 1, 1) := dk_27 (dk_at dksX8_readSum_1 19 rfl rfl)
theorem dX8_readSum_44 : decode cX8_readSum 44 = .ok (.bipush 43, 2) := dk_16 43 (dk_at dksX8_readSum_1 20 rfl rfl)
theorem dX8_readSum_46 : decode cX8_readSum 46 = .ok (.if_icmp .ne 8, 3) := dk_160 0 8 (dk_at dksX8_readSum_2 0 rfl rfl)
theorem dX8_readSum_49 : decode cX8_readSum 49 = .ok (.bipush 110, 2) := dk_16 110 (dk_at dksX8_readSum_2 3 rfl rfl)
theorem dX8_readSum_51 : decode cX8_readSum 51 = .ok (.goto 5, 3) := dk_167 0 5 (dk_at dksX8_readSum_2 5 rfl rfl)
theorem dX8_readSum_54 : decode cX8_readSum 54 = .ok (.bipush 111, 2) := dk_16 111 (dk_at dksX8_readSum_2 8 rfl rfl)
theorem dX8_readSum_56 : decode cX8_readSum 56 = .ok (.invokevirtual 188, 3) := dk_182 0 188 (dk_at dksX8_readSum_2 10 rfl rfl)
theorem dX8_readSum_59 : decode cX8_readSum 59 = .ok (.goto (-55), 3) := dk_167 255 201 (dk_at dksX8_readSum_2 13 rfl rfl)
theorem dX8_readSum_62 : decode cX8_readSum 62 = .ok (.return_, 1) := dk_177 (dk_at dksX8_readSum_2 16 rfl rfl)
abbrev cX8_readTerm : ByteArray := prog_29_method_25_code
def yX8_readTerm : MethodName := ⟨RX8, "readTerm", "()V"⟩
def dkwX8_readTerm_2 : List UInt8 := [177]
abbrev dktX8_readTerm_2 : List UInt8 := dkwX8_readTerm_2 ++ []
def dkwX8_readTerm_1 : List UInt8 := [180, 0, 128, 60, 27, 2, 160, 0, 9, 42, 5, 182, 0, 150, 177, 42, 27, 182, 0, 188, 42, 182, 0, 154]
abbrev dktX8_readTerm_1 : List UInt8 := dkwX8_readTerm_1 ++ dktX8_readTerm_2
def dkwX8_readTerm_0 : List UInt8 := [42, 180, 0, 134, 153, 0, 4, 177, 42, 182, 0, 185, 60, 42, 180, 0, 116, 5, 160, 0, 8, 42]
abbrev dktX8_readTerm_0 : List UInt8 := dkwX8_readTerm_0 ++ dktX8_readTerm_1
theorem dksX8_readTerm_0 : cX8_readTerm.data.toList.drop 0 = dktX8_readTerm_0 := by decide +kernel
theorem dksX8_readTerm_1 : cX8_readTerm.data.toList.drop 22 = dktX8_readTerm_1 := dk_seg dksX8_readTerm_0 22 rfl rfl
theorem dksX8_readTerm_2 : cX8_readTerm.data.toList.drop 46 = dktX8_readTerm_2 := dk_seg dksX8_readTerm_1 24 rfl rfl
theorem dX8_readTerm_0 : decode cX8_readTerm 0 = .ok (.aload_n 0, 1) := dk_42 (dk_at dksX8_readTerm_0 0 rfl rfl)
theorem dX8_readTerm_1 : decode cX8_readTerm 1 = .ok (.getfield 134, 3) := dk_180 0 134 (dk_at dksX8_readTerm_0 1 rfl rfl)
theorem dX8_readTerm_4 : decode cX8_readTerm 4 = .ok (.ifCond .eq 4, 3) := dk_153 0 4 (dk_at dksX8_readTerm_0 4 rfl rfl)
theorem dX8_readTerm_7 : decode cX8_readTerm 7 = .ok (.return_, 1) := dk_177 (dk_at dksX8_readTerm_0 7 rfl rfl)
theorem dX8_readTerm_8 : decode cX8_readTerm 8 = .ok (.aload_n 0, 1) := dk_42 (dk_at dksX8_readTerm_0 8 rfl rfl)
theorem dX8_readTerm_9 : decode cX8_readTerm 9 = .ok (.invokevirtual 185, 3) := dk_182 0 185 (dk_at dksX8_readTerm_0 9 rfl rfl)
theorem dX8_readTerm_12 : decode cX8_readTerm 12 = .ok (.istore_n 1, 1) := dk_60 (dk_at dksX8_readTerm_0 12 rfl rfl)
theorem dX8_readTerm_13 : decode cX8_readTerm 13 = .ok (.aload_n 0, 1) := dk_42 (dk_at dksX8_readTerm_0 13 rfl rfl)
theorem dX8_readTerm_14 : decode cX8_readTerm 14 = .ok (.getfield 116, 3) := dk_180 0 116 (dk_at dksX8_readTerm_0 14 rfl rfl)
theorem dX8_readTerm_17 : decode cX8_readTerm 17 = .ok (.iconst 2, 1) := dk_5 (dk_at dksX8_readTerm_0 17 rfl rfl)
theorem dX8_readTerm_18 : decode cX8_readTerm 18 = .ok (.if_icmp .ne 8, 3) := dk_160 0 8 (dk_at dksX8_readTerm_0 18 rfl rfl)
theorem dX8_readTerm_21 : decode cX8_readTerm 21 = .ok (.aload_n 0, 1) := dk_42 (dk_at dksX8_readTerm_0 21 rfl rfl)
theorem dX8_readTerm_22 : decode cX8_readTerm 22 = .ok (.getfield 128, 3) := dk_180 0 128 (dk_at dksX8_readTerm_1 0 rfl rfl)
theorem dX8_readTerm_25 : decode cX8_readTerm 25 = .ok (.istore_n 1, 1) := dk_60 (dk_at dksX8_readTerm_1 3 rfl rfl)
theorem dX8_readTerm_26 : decode cX8_readTerm 26 = .ok (.iload_n 1, 1) := dk_27 (dk_at dksX8_readTerm_1 4 rfl rfl)
theorem dX8_readTerm_27 : decode cX8_readTerm 27 = .ok (.iconst (-1), 1) := dk_2 (dk_at dksX8_readTerm_1 5 rfl rfl)
theorem dX8_readTerm_28 : decode cX8_readTerm 28 = .ok (.if_icmp .ne 9, 3) := dk_160 0 9 (dk_at dksX8_readTerm_1 6 rfl rfl)
theorem dX8_readTerm_31 : decode cX8_readTerm 31 = .ok (.aload_n 0, 1) := dk_42 (dk_at dksX8_readTerm_1 9 rfl rfl)
theorem dX8_readTerm_32 : decode cX8_readTerm 32 = .ok (.iconst 2, 1) := dk_5 (dk_at dksX8_readTerm_1 10 rfl rfl)
theorem dX8_readTerm_33 : decode cX8_readTerm 33 = .ok (.invokevirtual 150, 3) := dk_182 0 150 (dk_at dksX8_readTerm_1 11 rfl rfl)
theorem dX8_readTerm_36 : decode cX8_readTerm 36 = .ok (.return_, 1) := dk_177 (dk_at dksX8_readTerm_1 14 rfl rfl)
theorem dX8_readTerm_37 : decode cX8_readTerm 37 = .ok (.aload_n 0, 1) := dk_42 (dk_at dksX8_readTerm_1 15 rfl rfl)
theorem dX8_readTerm_38 : decode cX8_readTerm 38 = .ok (.iload_n 1, 1) := dk_27 (dk_at dksX8_readTerm_1 16 rfl rfl)
theorem dX8_readTerm_39 : decode cX8_readTerm 39 = .ok (.invokevirtual 188, 3) := dk_182 0 188 (dk_at dksX8_readTerm_1 17 rfl rfl)
theorem dX8_readTerm_42 : decode cX8_readTerm 42 = .ok (.aload_n 0, 1) := dk_42 (dk_at dksX8_readTerm_1 20 rfl rfl)
theorem dX8_readTerm_43 : decode cX8_readTerm 43 = .ok (.invokevirtual 154, 3) := dk_182 0 154 (dk_at dksX8_readTerm_1 21 rfl rfl)
theorem dX8_readTerm_46 : decode cX8_readTerm 46 = .ok (.return_, 1) := dk_177 (dk_at dksX8_readTerm_2 0 rfl rfl)
abbrev cX8_known : ByteArray := prog_29_method_24_code
def yX8_known : MethodName := ⟨RX8, "known", "()I"⟩
def dkwX8_known_5 : List UInt8 := [18, 183, 182, 0, 165, 153, 0, 8, 16, 108, 167, 0, 4, 2, 172]
abbrev dktX8_known_5 : List UInt8 := dkwX8_known_5 ++ []
def dkwX8_known_4 : List UInt8 := [153, 0, 8, 16, 106, 167, 0, 32, 42, 18, 181, 182, 0, 165, 153, 0, 8, 16, 107, 167, 0, 18, 42]
abbrev dktX8_known_4 : List UInt8 := dkwX8_known_4 ++ dktX8_known_5
def dkwX8_known_3 : List UInt8 := [167, 0, 60, 42, 18, 177, 182, 0, 165, 153, 0, 8, 16, 105, 167, 0, 46, 42, 18, 179, 182, 0, 165]
abbrev dktX8_known_3 : List UInt8 := dkwX8_known_3 ++ dktX8_known_4
def dkwX8_known_2 : List UInt8 := [182, 0, 165, 153, 0, 8, 16, 103, 167, 0, 74, 42, 18, 175, 182, 0, 165, 153, 0, 8, 16, 104]
abbrev dktX8_known_2 : List UInt8 := dkwX8_known_2 ++ dktX8_known_3
def dkwX8_known_1 : List UInt8 := [16, 101, 167, 0, 102, 42, 18, 171, 182, 0, 165, 153, 0, 8, 16, 102, 167, 0, 88, 42, 18, 173]
abbrev dktX8_known_1 : List UInt8 := dkwX8_known_1 ++ dktX8_known_2
def dkwX8_known_0 : List UInt8 := [42, 18, 163, 182, 0, 165, 153, 0, 8, 16, 100, 167, 0, 116, 42, 18, 169, 182, 0, 165, 153, 0, 8]
abbrev dktX8_known_0 : List UInt8 := dkwX8_known_0 ++ dktX8_known_1
theorem dksX8_known_0 : cX8_known.data.toList.drop 0 = dktX8_known_0 := by decide +kernel
theorem dksX8_known_1 : cX8_known.data.toList.drop 23 = dktX8_known_1 := dk_seg dksX8_known_0 23 rfl rfl
theorem dksX8_known_2 : cX8_known.data.toList.drop 45 = dktX8_known_2 := dk_seg dksX8_known_1 22 rfl rfl
theorem dksX8_known_3 : cX8_known.data.toList.drop 67 = dktX8_known_3 := dk_seg dksX8_known_2 22 rfl rfl
theorem dksX8_known_4 : cX8_known.data.toList.drop 90 = dktX8_known_4 := dk_seg dksX8_known_3 23 rfl rfl
theorem dksX8_known_5 : cX8_known.data.toList.drop 113 = dktX8_known_5 := dk_seg dksX8_known_4 23 rfl rfl
theorem dX8_known_0 : decode cX8_known 0 = .ok (.aload_n 0, 1) := dk_42 (dk_at dksX8_known_0 0 rfl rfl)
theorem dX8_known_1 : decode cX8_known 1 = .ok (.ldc 163, 2) := dk_18 163 (dk_at dksX8_known_0 1 rfl rfl)
theorem dX8_known_3 : decode cX8_known 3 = .ok (.invokevirtual 165, 3) := dk_182 0 165 (dk_at dksX8_known_0 3 rfl rfl)
theorem dX8_known_6 : decode cX8_known 6 = .ok (.ifCond .eq 8, 3) := dk_153 0 8 (dk_at dksX8_known_0 6 rfl rfl)
theorem dX8_known_9 : decode cX8_known 9 = .ok (.bipush 100, 2) := dk_16 100 (dk_at dksX8_known_0 9 rfl rfl)
theorem dX8_known_11 : decode cX8_known 11 = .ok (.goto 116, 3) := dk_167 0 116 (dk_at dksX8_known_0 11 rfl rfl)
theorem dX8_known_14 : decode cX8_known 14 = .ok (.aload_n 0, 1) := dk_42 (dk_at dksX8_known_0 14 rfl rfl)
theorem dX8_known_15 : decode cX8_known 15 = .ok (.ldc 169, 2) := dk_18 169 (dk_at dksX8_known_0 15 rfl rfl)
theorem dX8_known_17 : decode cX8_known 17 = .ok (.invokevirtual 165, 3) := dk_182 0 165 (dk_at dksX8_known_0 17 rfl rfl)
theorem dX8_known_20 : decode cX8_known 20 = .ok (.ifCond .eq 8, 3) := dk_153 0 8 (dk_at dksX8_known_0 20 rfl rfl)
theorem dX8_known_23 : decode cX8_known 23 = .ok (.bipush 101, 2) := dk_16 101 (dk_at dksX8_known_1 0 rfl rfl)
theorem dX8_known_25 : decode cX8_known 25 = .ok (.goto 102, 3) := dk_167 0 102 (dk_at dksX8_known_1 2 rfl rfl)
theorem dX8_known_28 : decode cX8_known 28 = .ok (.aload_n 0, 1) := dk_42 (dk_at dksX8_known_1 5 rfl rfl)
theorem dX8_known_29 : decode cX8_known 29 = .ok (.ldc 171, 2) := dk_18 171 (dk_at dksX8_known_1 6 rfl rfl)
theorem dX8_known_31 : decode cX8_known 31 = .ok (.invokevirtual 165, 3) := dk_182 0 165 (dk_at dksX8_known_1 8 rfl rfl)
theorem dX8_known_34 : decode cX8_known 34 = .ok (.ifCond .eq 8, 3) := dk_153 0 8 (dk_at dksX8_known_1 11 rfl rfl)
theorem dX8_known_37 : decode cX8_known 37 = .ok (.bipush 102, 2) := dk_16 102 (dk_at dksX8_known_1 14 rfl rfl)
theorem dX8_known_39 : decode cX8_known 39 = .ok (.goto 88, 3) := dk_167 0 88 (dk_at dksX8_known_1 16 rfl rfl)
theorem dX8_known_42 : decode cX8_known 42 = .ok (.aload_n 0, 1) := dk_42 (dk_at dksX8_known_1 19 rfl rfl)
theorem dX8_known_43 : decode cX8_known 43 = .ok (.ldc 173, 2) := dk_18 173 (dk_at dksX8_known_1 20 rfl rfl)
theorem dX8_known_45 : decode cX8_known 45 = .ok (.invokevirtual 165, 3) := dk_182 0 165 (dk_at dksX8_known_2 0 rfl rfl)
theorem dX8_known_48 : decode cX8_known 48 = .ok (.ifCond .eq 8, 3) := dk_153 0 8 (dk_at dksX8_known_2 3 rfl rfl)
theorem dX8_known_51 : decode cX8_known 51 = .ok (.bipush 103, 2) := dk_16 103 (dk_at dksX8_known_2 6 rfl rfl)
theorem dX8_known_53 : decode cX8_known 53 = .ok (.goto 74, 3) := dk_167 0 74 (dk_at dksX8_known_2 8 rfl rfl)
theorem dX8_known_56 : decode cX8_known 56 = .ok (.aload_n 0, 1) := dk_42 (dk_at dksX8_known_2 11 rfl rfl)
theorem dX8_known_57 : decode cX8_known 57 = .ok (.ldc 175, 2) := dk_18 175 (dk_at dksX8_known_2 12 rfl rfl)
theorem dX8_known_59 : decode cX8_known 59 = .ok (.invokevirtual 165, 3) := dk_182 0 165 (dk_at dksX8_known_2 14 rfl rfl)
theorem dX8_known_62 : decode cX8_known 62 = .ok (.ifCond .eq 8, 3) := dk_153 0 8 (dk_at dksX8_known_2 17 rfl rfl)
theorem dX8_known_65 : decode cX8_known 65 = .ok (.bipush 104, 2) := dk_16 104 (dk_at dksX8_known_2 20 rfl rfl)
theorem dX8_known_67 : decode cX8_known 67 = .ok (.goto 60, 3) := dk_167 0 60 (dk_at dksX8_known_3 0 rfl rfl)
theorem dX8_known_70 : decode cX8_known 70 = .ok (.aload_n 0, 1) := dk_42 (dk_at dksX8_known_3 3 rfl rfl)
theorem dX8_known_71 : decode cX8_known 71 = .ok (.ldc 177, 2) := dk_18 177 (dk_at dksX8_known_3 4 rfl rfl)
theorem dX8_known_73 : decode cX8_known 73 = .ok (.invokevirtual 165, 3) := dk_182 0 165 (dk_at dksX8_known_3 6 rfl rfl)
theorem dX8_known_76 : decode cX8_known 76 = .ok (.ifCond .eq 8, 3) := dk_153 0 8 (dk_at dksX8_known_3 9 rfl rfl)
theorem dX8_known_79 : decode cX8_known 79 = .ok (.bipush 105, 2) := dk_16 105 (dk_at dksX8_known_3 12 rfl rfl)
theorem dX8_known_81 : decode cX8_known 81 = .ok (.goto 46, 3) := dk_167 0 46 (dk_at dksX8_known_3 14 rfl rfl)
theorem dX8_known_84 : decode cX8_known 84 = .ok (.aload_n 0, 1) := dk_42 (dk_at dksX8_known_3 17 rfl rfl)
theorem dX8_known_85 : decode cX8_known 85 = .ok (.ldc 179, 2) := dk_18 179 (dk_at dksX8_known_3 18 rfl rfl)
theorem dX8_known_87 : decode cX8_known 87 = .ok (.invokevirtual 165, 3) := dk_182 0 165 (dk_at dksX8_known_3 20 rfl rfl)
theorem dX8_known_90 : decode cX8_known 90 = .ok (.ifCond .eq 8, 3) := dk_153 0 8 (dk_at dksX8_known_4 0 rfl rfl)
theorem dX8_known_93 : decode cX8_known 93 = .ok (.bipush 106, 2) := dk_16 106 (dk_at dksX8_known_4 3 rfl rfl)
theorem dX8_known_95 : decode cX8_known 95 = .ok (.goto 32, 3) := dk_167 0 32 (dk_at dksX8_known_4 5 rfl rfl)
theorem dX8_known_98 : decode cX8_known 98 = .ok (.aload_n 0, 1) := dk_42 (dk_at dksX8_known_4 8 rfl rfl)
theorem dX8_known_99 : decode cX8_known 99 = .ok (.ldc 181, 2) := dk_18 181 (dk_at dksX8_known_4 9 rfl rfl)
theorem dX8_known_101 : decode cX8_known 101 = .ok (.invokevirtual 165, 3) := dk_182 0 165 (dk_at dksX8_known_4 11 rfl rfl)
theorem dX8_known_104 : decode cX8_known 104 = .ok (.ifCond .eq 8, 3) := dk_153 0 8 (dk_at dksX8_known_4 14 rfl rfl)
theorem dX8_known_107 : decode cX8_known 107 = .ok (.bipush 107, 2) := dk_16 107 (dk_at dksX8_known_4 17 rfl rfl)
theorem dX8_known_109 : decode cX8_known 109 = .ok (.goto 18, 3) := dk_167 0 18 (dk_at dksX8_known_4 19 rfl rfl)
theorem dX8_known_112 : decode cX8_known 112 = .ok (.aload_n 0, 1) := dk_42 (dk_at dksX8_known_4 22 rfl rfl)
theorem dX8_known_113 : decode cX8_known 113 = .ok (.ldc 183, 2) := dk_18 183 (dk_at dksX8_known_5 0 rfl rfl)
theorem dX8_known_115 : decode cX8_known 115 = .ok (.invokevirtual 165, 3) := dk_182 0 165 (dk_at dksX8_known_5 2 rfl rfl)
theorem dX8_known_118 : decode cX8_known 118 = .ok (.ifCond .eq 8, 3) := dk_153 0 8 (dk_at dksX8_known_5 5 rfl rfl)
theorem dX8_known_121 : decode cX8_known 121 = .ok (.bipush 108, 2) := dk_16 108 (dk_at dksX8_known_5 8 rfl rfl)
theorem dX8_known_123 : decode cX8_known 123 = .ok (.goto 4, 3) := dk_167 0 4 (dk_at dksX8_known_5 10 rfl rfl)
theorem dX8_known_126 : decode cX8_known 126 = .ok (.iconst (-1), 1) := dk_2 (dk_at dksX8_known_5 13 rfl rfl)
theorem dX8_known_127 : decode cX8_known 127 = .ok (.ireturn, 1) := dk_172 (dk_at dksX8_known_5 14 rfl rfl)
abbrev cX8_stop : ByteArray := prog_29_method_20_code
def yX8_stop : MethodName := ⟨RX8, "stop", "()V"⟩
def dkwX8_stop_1 : List UInt8 := [180, 0, 134, 154, 0, 7, 42, 182, 0, 154, 177]
abbrev dktX8_stop_1 : List UInt8 := dkwX8_stop_1 ++ []
def dkwX8_stop_0 : List UInt8 := [42, 180, 0, 134, 154, 0, 17, 42, 180, 0, 113, 16, 59, 159, 0, 8, 42, 5, 182, 0, 150, 42]
abbrev dktX8_stop_0 : List UInt8 := dkwX8_stop_0 ++ dktX8_stop_1
theorem dksX8_stop_0 : cX8_stop.data.toList.drop 0 = dktX8_stop_0 := by decide +kernel
theorem dksX8_stop_1 : cX8_stop.data.toList.drop 22 = dktX8_stop_1 := dk_seg dksX8_stop_0 22 rfl rfl
theorem dX8_stop_0 : decode cX8_stop 0 = .ok (.aload_n 0, 1) := dk_42 (dk_at dksX8_stop_0 0 rfl rfl)
theorem dX8_stop_1 : decode cX8_stop 1 = .ok (.getfield 134, 3) := dk_180 0 134 (dk_at dksX8_stop_0 1 rfl rfl)
theorem dX8_stop_4 : decode cX8_stop 4 = .ok (.ifCond .ne 17, 3) := dk_154 0 17 (dk_at dksX8_stop_0 4 rfl rfl)
theorem dX8_stop_7 : decode cX8_stop 7 = .ok (.aload_n 0, 1) := dk_42 (dk_at dksX8_stop_0 7 rfl rfl)
theorem dX8_stop_8 : decode cX8_stop 8 = .ok (.getfield 113, 3) := dk_180 0 113 (dk_at dksX8_stop_0 8 rfl rfl)
theorem dX8_stop_11 : decode cX8_stop 11 = .ok (.bipush 59, 2) := dk_16 59 (dk_at dksX8_stop_0 11 rfl rfl)
theorem dX8_stop_13 : decode cX8_stop 13 = .ok (.if_icmp .eq 8, 3) := dk_159 0 8 (dk_at dksX8_stop_0 13 rfl rfl)
theorem dX8_stop_16 : decode cX8_stop 16 = .ok (.aload_n 0, 1) := dk_42 (dk_at dksX8_stop_0 16 rfl rfl)
theorem dX8_stop_17 : decode cX8_stop 17 = .ok (.iconst 2, 1) := dk_5 (dk_at dksX8_stop_0 17 rfl rfl)
theorem dX8_stop_18 : decode cX8_stop 18 = .ok (.invokevirtual 150, 3) := dk_182 0 150 (dk_at dksX8_stop_0 18 rfl rfl)
theorem dX8_stop_21 : decode cX8_stop 21 = .ok (.aload_n 0, 1) := dk_42 (dk_at dksX8_stop_0 21 rfl rfl)
theorem dX8_stop_22 : decode cX8_stop 22 = .ok (.getfield 134, 3) := dk_180 0 134 (dk_at dksX8_stop_1 0 rfl rfl)
theorem dX8_stop_25 : decode cX8_stop 25 = .ok (.ifCond .ne 7, 3) := dk_154 0 7 (dk_at dksX8_stop_1 3 rfl rfl)
theorem dX8_stop_28 : decode cX8_stop 28 = .ok (.aload_n 0, 1) := dk_42 (dk_at dksX8_stop_1 6 rfl rfl)
theorem dX8_stop_29 : decode cX8_stop 29 = .ok (.invokevirtual 154, 3) := dk_182 0 154 (dk_at dksX8_stop_1 7 rfl rfl)
theorem dX8_stop_32 : decode cX8_stop 32 = .ok (.return_, 1) := dk_177 (dk_at dksX8_stop_1 10 rfl rfl)
abbrev cX8_ends : ByteArray := prog_29_method_22_code
def yX8_ends : MethodName := ⟨RX8, "ends", "(I)I"⟩
def dkwX8_ends_1 : List UInt8 := [181, 0, 36, 42, 180, 0, 134, 154, 0, 7, 27, 167, 0, 10, 16, 246, 42, 180, 0, 134, 100, 172]
abbrev dktX8_ends_1 : List UInt8 := dkwX8_ends_1 ++ []
def dkwX8_ends_0 : List UInt8 := [42, 42, 180, 0, 134, 181, 0, 157, 42, 42, 180, 0, 134, 154, 0, 7, 2, 167, 0, 7, 42, 180, 0, 137]
abbrev dktX8_ends_0 : List UInt8 := dkwX8_ends_0 ++ dktX8_ends_1
theorem dksX8_ends_0 : cX8_ends.data.toList.drop 0 = dktX8_ends_0 := by decide +kernel
theorem dksX8_ends_1 : cX8_ends.data.toList.drop 24 = dktX8_ends_1 := dk_seg dksX8_ends_0 24 rfl rfl
theorem dX8_ends_0 : decode cX8_ends 0 = .ok (.aload_n 0, 1) := dk_42 (dk_at dksX8_ends_0 0 rfl rfl)
theorem dX8_ends_1 : decode cX8_ends 1 = .ok (.aload_n 0, 1) := dk_42 (dk_at dksX8_ends_0 1 rfl rfl)
theorem dX8_ends_2 : decode cX8_ends 2 = .ok (.getfield 134, 3) := dk_180 0 134 (dk_at dksX8_ends_0 2 rfl rfl)
theorem dX8_ends_5 : decode cX8_ends 5 = .ok (.putfield 157, 3) := dk_181 0 157 (dk_at dksX8_ends_0 5 rfl rfl)
theorem dX8_ends_8 : decode cX8_ends 8 = .ok (.aload_n 0, 1) := dk_42 (dk_at dksX8_ends_0 8 rfl rfl)
theorem dX8_ends_9 : decode cX8_ends 9 = .ok (.aload_n 0, 1) := dk_42 (dk_at dksX8_ends_0 9 rfl rfl)
theorem dX8_ends_10 : decode cX8_ends 10 = .ok (.getfield 134, 3) := dk_180 0 134 (dk_at dksX8_ends_0 10 rfl rfl)
theorem dX8_ends_13 : decode cX8_ends 13 = .ok (.ifCond .ne 7, 3) := dk_154 0 7 (dk_at dksX8_ends_0 13 rfl rfl)
theorem dX8_ends_16 : decode cX8_ends 16 = .ok (.iconst (-1), 1) := dk_2 (dk_at dksX8_ends_0 16 rfl rfl)
theorem dX8_ends_17 : decode cX8_ends 17 = .ok (.goto 7, 3) := dk_167 0 7 (dk_at dksX8_ends_0 17 rfl rfl)
theorem dX8_ends_20 : decode cX8_ends 20 = .ok (.aload_n 0, 1) := dk_42 (dk_at dksX8_ends_0 20 rfl rfl)
theorem dX8_ends_21 : decode cX8_ends 21 = .ok (.getfield 137, 3) := dk_180 0 137 (dk_at dksX8_ends_0 21 rfl rfl)
theorem dX8_ends_24 : decode cX8_ends 24 = .ok (.putfield 36, 3) := dk_181 0 36 (dk_at dksX8_ends_1 0 rfl rfl)
theorem dX8_ends_27 : decode cX8_ends 27 = .ok (.aload_n 0, 1) := dk_42 (dk_at dksX8_ends_1 3 rfl rfl)
theorem dX8_ends_28 : decode cX8_ends 28 = .ok (.getfield 134, 3) := dk_180 0 134 (dk_at dksX8_ends_1 4 rfl rfl)
theorem dX8_ends_31 : decode cX8_ends 31 = .ok (.ifCond .ne 7, 3) := dk_154 0 7 (dk_at dksX8_ends_1 7 rfl rfl)
theorem dX8_ends_34 : decode cX8_ends 34 = .ok (.iload_n 1, 1) := dk_27 (dk_at dksX8_ends_1 10 rfl rfl)
theorem dX8_ends_35 : decode cX8_ends 35 = .ok (.goto 10, 3) := dk_167 0 10 (dk_at dksX8_ends_1 11 rfl rfl)
theorem dX8_ends_38 : decode cX8_ends 38 = .ok (.bipush (-10), 2) := dk_16 246 (dk_at dksX8_ends_1 14 rfl rfl)
theorem dX8_ends_40 : decode cX8_ends 40 = .ok (.aload_n 0, 1) := dk_42 (dk_at dksX8_ends_1 16 rfl rfl)
theorem dX8_ends_41 : decode cX8_ends 41 = .ok (.getfield 134, 3) := dk_180 0 134 (dk_at dksX8_ends_1 17 rfl rfl)
theorem dX8_ends_44 : decode cX8_ends 44 = .ok (.isub, 1) := dk_100 (dk_at dksX8_ends_1 20 rfl rfl)
theorem dX8_ends_45 : decode cX8_ends 45 = .ok (.ireturn, 1) := dk_172 (dk_at dksX8_ends_1 21 rfl rfl)
abbrev cX8_law : ByteArray := prog_29_method_33_code
def yX8_law : MethodName := ⟨RX8, "law", "(I)I"⟩
def dkwX8_law_5 : List UInt8 := [180, 0, 33, 29, 46, 79, 132, 3, 1, 167, 255, 233, 42, 28, 182, 0, 245, 172]
abbrev dktX8_law_5 : List UInt8 := dkwX8_law_5 ++ []
def dkwX8_law_4 : List UInt8 := [42, 180, 0, 134, 154, 0, 31, 3, 62, 29, 8, 162, 0, 24, 42, 180, 0, 9, 16, 120, 29, 96, 42]
abbrev dktX8_law_4 : List UInt8 := dkwX8_law_4 ++ dktX8_law_5
def dkwX8_law_3 : List UInt8 := [154, 0, 24, 42, 180, 0, 116, 153, 0, 17, 42, 182, 0, 248, 42, 182, 0, 236, 132, 2, 1, 167, 255, 231]
abbrev dktX8_law_3 : List UInt8 := dkwX8_law_3 ++ dktX8_law_4
def dkwX8_law_2 : List UInt8 := [5, 2, 79, 42, 180, 0, 33, 6, 3, 79, 42, 180, 0, 33, 7, 3, 79, 3, 61, 42, 180, 0, 134]
abbrev dktX8_law_2 : List UInt8 := dkwX8_law_2 ++ dktX8_law_3
def dkwX8_law_1 : List UInt8 := [172, 42, 27, 182, 0, 239, 42, 180, 0, 33, 3, 2, 79, 42, 180, 0, 33, 4, 3, 79, 42, 180, 0, 33]
abbrev dktX8_law_1 : List UInt8 := dkwX8_law_1 ++ dktX8_law_2
def dkwX8_law_0 : List UInt8 := [42, 3, 181, 0, 76, 27, 133, 9, 42, 180, 0, 101, 133, 184, 0, 79, 154, 0, 9, 42, 4, 182, 0, 83]
abbrev dktX8_law_0 : List UInt8 := dkwX8_law_0 ++ dktX8_law_1
theorem dksX8_law_0 : cX8_law.data.toList.drop 0 = dktX8_law_0 := by decide +kernel
theorem dksX8_law_1 : cX8_law.data.toList.drop 24 = dktX8_law_1 := dk_seg dksX8_law_0 24 rfl rfl
theorem dksX8_law_2 : cX8_law.data.toList.drop 48 = dktX8_law_2 := dk_seg dksX8_law_1 24 rfl rfl
theorem dksX8_law_3 : cX8_law.data.toList.drop 71 = dktX8_law_3 := dk_seg dksX8_law_2 23 rfl rfl
theorem dksX8_law_4 : cX8_law.data.toList.drop 95 = dktX8_law_4 := dk_seg dksX8_law_3 24 rfl rfl
theorem dksX8_law_5 : cX8_law.data.toList.drop 118 = dktX8_law_5 := dk_seg dksX8_law_4 23 rfl rfl
theorem dX8_law_0 : decode cX8_law 0 = .ok (.aload_n 0, 1) := dk_42 (dk_at dksX8_law_0 0 rfl rfl)
theorem dX8_law_1 : decode cX8_law 1 = .ok (.iconst 0, 1) := dk_3 (dk_at dksX8_law_0 1 rfl rfl)
theorem dX8_law_2 : decode cX8_law 2 = .ok (.putfield 76, 3) := dk_181 0 76 (dk_at dksX8_law_0 2 rfl rfl)
theorem dX8_law_5 : decode cX8_law 5 = .ok (.iload_n 1, 1) := dk_27 (dk_at dksX8_law_0 5 rfl rfl)
theorem dX8_law_6 : decode cX8_law 6 = .ok (.i2l, 1) := dk_133 (dk_at dksX8_law_0 6 rfl rfl)
theorem dX8_law_7 : decode cX8_law 7 = .ok (.lconst 0, 1) := dk_9 (dk_at dksX8_law_0 7 rfl rfl)
theorem dX8_law_8 : decode cX8_law 8 = .ok (.aload_n 0, 1) := dk_42 (dk_at dksX8_law_0 8 rfl rfl)
theorem dX8_law_9 : decode cX8_law 9 = .ok (.getfield 101, 3) := dk_180 0 101 (dk_at dksX8_law_0 9 rfl rfl)
theorem dX8_law_12 : decode cX8_law 12 = .ok (.i2l, 1) := dk_133 (dk_at dksX8_law_0 12 rfl rfl)
theorem dX8_law_13 : decode cX8_law 13 = .ok (.invokestatic 79, 3) := dk_184 0 79 (dk_at dksX8_law_0 13 rfl rfl)
theorem dX8_law_16 : decode cX8_law 16 = .ok (.ifCond .ne 9, 3) := dk_154 0 9 (dk_at dksX8_law_0 16 rfl rfl)
theorem dX8_law_19 : decode cX8_law 19 = .ok (.aload_n 0, 1) := dk_42 (dk_at dksX8_law_0 19 rfl rfl)
theorem dX8_law_20 : decode cX8_law 20 = .ok (.iconst 1, 1) := dk_4 (dk_at dksX8_law_0 20 rfl rfl)
theorem dX8_law_21 : decode cX8_law 21 = .ok (.invokevirtual 83, 3) := dk_182 0 83 (dk_at dksX8_law_0 21 rfl rfl)
theorem dX8_law_24 : decode cX8_law 24 = .ok (.ireturn, 1) := dk_172 (dk_at dksX8_law_1 0 rfl rfl)
theorem dX8_law_25 : decode cX8_law 25 = .ok (.aload_n 0, 1) := dk_42 (dk_at dksX8_law_1 1 rfl rfl)
theorem dX8_law_26 : decode cX8_law 26 = .ok (.iload_n 1, 1) := dk_27 (dk_at dksX8_law_1 2 rfl rfl)
theorem dX8_law_27 : decode cX8_law 27 = .ok (.invokevirtual 239, 3) := dk_182 0 239 (dk_at dksX8_law_1 3 rfl rfl)
theorem dX8_law_30 : decode cX8_law 30 = .ok (.aload_n 0, 1) := dk_42 (dk_at dksX8_law_1 6 rfl rfl)
theorem dX8_law_31 : decode cX8_law 31 = .ok (.getfield 33, 3) := dk_180 0 33 (dk_at dksX8_law_1 7 rfl rfl)
theorem dX8_law_34 : decode cX8_law 34 = .ok (.iconst 0, 1) := dk_3 (dk_at dksX8_law_1 10 rfl rfl)
theorem dX8_law_35 : decode cX8_law 35 = .ok (.iconst (-1), 1) := dk_2 (dk_at dksX8_law_1 11 rfl rfl)
theorem dX8_law_36 : decode cX8_law 36 = .ok (.iastore, 1) := dk_79 (dk_at dksX8_law_1 12 rfl rfl)
theorem dX8_law_37 : decode cX8_law 37 = .ok (.aload_n 0, 1) := dk_42 (dk_at dksX8_law_1 13 rfl rfl)
theorem dX8_law_38 : decode cX8_law 38 = .ok (.getfield 33, 3) := dk_180 0 33 (dk_at dksX8_law_1 14 rfl rfl)
theorem dX8_law_41 : decode cX8_law 41 = .ok (.iconst 1, 1) := dk_4 (dk_at dksX8_law_1 17 rfl rfl)
theorem dX8_law_42 : decode cX8_law 42 = .ok (.iconst 0, 1) := dk_3 (dk_at dksX8_law_1 18 rfl rfl)
theorem dX8_law_43 : decode cX8_law 43 = .ok (.iastore, 1) := dk_79 (dk_at dksX8_law_1 19 rfl rfl)
theorem dX8_law_44 : decode cX8_law 44 = .ok (.aload_n 0, 1) := dk_42 (dk_at dksX8_law_1 20 rfl rfl)
theorem dX8_law_45 : decode cX8_law 45 = .ok (.getfield 33, 3) := dk_180 0 33 (dk_at dksX8_law_1 21 rfl rfl)
theorem dX8_law_48 : decode cX8_law 48 = .ok (.iconst 2, 1) := dk_5 (dk_at dksX8_law_2 0 rfl rfl)
theorem dX8_law_49 : decode cX8_law 49 = .ok (.iconst (-1), 1) := dk_2 (dk_at dksX8_law_2 1 rfl rfl)
theorem dX8_law_50 : decode cX8_law 50 = .ok (.iastore, 1) := dk_79 (dk_at dksX8_law_2 2 rfl rfl)
theorem dX8_law_51 : decode cX8_law 51 = .ok (.aload_n 0, 1) := dk_42 (dk_at dksX8_law_2 3 rfl rfl)
theorem dX8_law_52 : decode cX8_law 52 = .ok (.getfield 33, 3) := dk_180 0 33 (dk_at dksX8_law_2 4 rfl rfl)
theorem dX8_law_55 : decode cX8_law 55 = .ok (.iconst 3, 1) := dk_6 (dk_at dksX8_law_2 7 rfl rfl)
theorem dX8_law_56 : decode cX8_law 56 = .ok (.iconst 0, 1) := dk_3 (dk_at dksX8_law_2 8 rfl rfl)
theorem dX8_law_57 : decode cX8_law 57 = .ok (.iastore, 1) := dk_79 (dk_at dksX8_law_2 9 rfl rfl)
theorem dX8_law_58 : decode cX8_law 58 = .ok (.aload_n 0, 1) := dk_42 (dk_at dksX8_law_2 10 rfl rfl)
theorem dX8_law_59 : decode cX8_law 59 = .ok (.getfield 33, 3) := dk_180 0 33 (dk_at dksX8_law_2 11 rfl rfl)
theorem dX8_law_62 : decode cX8_law 62 = .ok (.iconst 4, 1) := dk_7 (dk_at dksX8_law_2 14 rfl rfl)
theorem dX8_law_63 : decode cX8_law 63 = .ok (.iconst 0, 1) := dk_3 (dk_at dksX8_law_2 15 rfl rfl)
theorem dX8_law_64 : decode cX8_law 64 = .ok (.iastore, 1) := dk_79 (dk_at dksX8_law_2 16 rfl rfl)
theorem dX8_law_65 : decode cX8_law 65 = .ok (.iconst 0, 1) := dk_3 (dk_at dksX8_law_2 17 rfl rfl)
theorem dX8_law_66 : decode cX8_law 66 = .ok (.istore_n 2, 1) := dk_61 (dk_at dksX8_law_2 18 rfl rfl)
theorem dX8_law_67 : decode cX8_law 67 = .ok (.aload_n 0, 1) := dk_42 (dk_at dksX8_law_2 19 rfl rfl)
theorem dX8_law_68 : decode cX8_law 68 = .ok (.getfield 134, 3) := dk_180 0 134 (dk_at dksX8_law_2 20 rfl rfl)
theorem dX8_law_71 : decode cX8_law 71 = .ok (.ifCond .ne 24, 3) := dk_154 0 24 (dk_at dksX8_law_3 0 rfl rfl)
theorem dX8_law_74 : decode cX8_law 74 = .ok (.aload_n 0, 1) := dk_42 (dk_at dksX8_law_3 3 rfl rfl)
theorem dX8_law_75 : decode cX8_law 75 = .ok (.getfield 116, 3) := dk_180 0 116 (dk_at dksX8_law_3 4 rfl rfl)
theorem dX8_law_78 : decode cX8_law 78 = .ok (.ifCond .eq 17, 3) := dk_153 0 17 (dk_at dksX8_law_3 7 rfl rfl)
theorem dX8_law_81 : decode cX8_law 81 = .ok (.aload_n 0, 1) := dk_42 (dk_at dksX8_law_3 10 rfl rfl)
theorem dX8_law_82 : decode cX8_law 82 = .ok (.invokevirtual 248, 3) := dk_182 0 248 (dk_at dksX8_law_3 11 rfl rfl)
theorem dX8_law_85 : decode cX8_law 85 = .ok (.aload_n 0, 1) := dk_42 (dk_at dksX8_law_3 14 rfl rfl)
theorem dX8_law_86 : decode cX8_law 86 = .ok (.invokevirtual 236, 3) := dk_182 0 236 (dk_at dksX8_law_3 15 rfl rfl)
theorem dX8_law_89 : decode cX8_law 89 = .ok (.iinc 2 1, 3) := dk_132 2 1 (dk_at dksX8_law_3 18 rfl rfl)
theorem dX8_law_92 : decode cX8_law 92 = .ok (.goto (-25), 3) := dk_167 255 231 (dk_at dksX8_law_3 21 rfl rfl)
theorem dX8_law_95 : decode cX8_law 95 = .ok (.aload_n 0, 1) := dk_42 (dk_at dksX8_law_4 0 rfl rfl)
theorem dX8_law_96 : decode cX8_law 96 = .ok (.getfield 134, 3) := dk_180 0 134 (dk_at dksX8_law_4 1 rfl rfl)
theorem dX8_law_99 : decode cX8_law 99 = .ok (.ifCond .ne 31, 3) := dk_154 0 31 (dk_at dksX8_law_4 4 rfl rfl)
theorem dX8_law_102 : decode cX8_law 102 = .ok (.iconst 0, 1) := dk_3 (dk_at dksX8_law_4 7 rfl rfl)
theorem dX8_law_103 : decode cX8_law 103 = .ok (.istore_n 3, 1) := dk_62 (dk_at dksX8_law_4 8 rfl rfl)
theorem dX8_law_104 : decode cX8_law 104 = .ok (.iload_n 3, 1) := dk_29 (dk_at dksX8_law_4 9 rfl rfl)
theorem dX8_law_105 : decode cX8_law 105 = .ok (.iconst 5, 1) := dk_8 (dk_at dksX8_law_4 10 rfl rfl)
theorem dX8_law_106 : decode cX8_law 106 = .ok (.if_icmp .ge 24, 3) := dk_162 0 24 (dk_at dksX8_law_4 11 rfl rfl)
theorem dX8_law_109 : decode cX8_law 109 = .ok (.aload_n 0, 1) := dk_42 (dk_at dksX8_law_4 14 rfl rfl)
theorem dX8_law_110 : decode cX8_law 110 = .ok (.getfield 9, 3) := dk_180 0 9 (dk_at dksX8_law_4 15 rfl rfl)
theorem dX8_law_113 : decode cX8_law 113 = .ok (.bipush 120, 2) := dk_16 120 (dk_at dksX8_law_4 18 rfl rfl)
theorem dX8_law_115 : decode cX8_law 115 = .ok (.iload_n 3, 1) := dk_29 (dk_at dksX8_law_4 20 rfl rfl)
theorem dX8_law_116 : decode cX8_law 116 = .ok (.iadd, 1) := dk_96 (dk_at dksX8_law_4 21 rfl rfl)
theorem dX8_law_117 : decode cX8_law 117 = .ok (.aload_n 0, 1) := dk_42 (dk_at dksX8_law_4 22 rfl rfl)
theorem dX8_law_118 : decode cX8_law 118 = .ok (.getfield 33, 3) := dk_180 0 33 (dk_at dksX8_law_5 0 rfl rfl)
theorem dX8_law_121 : decode cX8_law 121 = .ok (.iload_n 3, 1) := dk_29 (dk_at dksX8_law_5 3 rfl rfl)
theorem dX8_law_122 : decode cX8_law 122 = .ok (.iaload, 1) := dk_46 (dk_at dksX8_law_5 4 rfl rfl)
theorem dX8_law_123 : decode cX8_law 123 = .ok (.iastore, 1) := dk_79 (dk_at dksX8_law_5 5 rfl rfl)
theorem dX8_law_124 : decode cX8_law 124 = .ok (.iinc 3 1, 3) := dk_132 3 1 (dk_at dksX8_law_5 6 rfl rfl)
theorem dX8_law_127 : decode cX8_law 127 = .ok (.goto (-23), 3) := dk_167 255 233 (dk_at dksX8_law_5 9 rfl rfl)
theorem dX8_law_130 : decode cX8_law 130 = .ok (.aload_n 0, 1) := dk_42 (dk_at dksX8_law_5 12 rfl rfl)
theorem dX8_law_131 : decode cX8_law 131 = .ok (.iload_n 2, 1) := dk_28 (dk_at dksX8_law_5 13 rfl rfl)
theorem dX8_law_132 : decode cX8_law 132 = .ok (.invokevirtual 245, 3) := dk_182 0 245 (dk_at dksX8_law_5 14 rfl rfl)
theorem dX8_law_135 : decode cX8_law 135 = .ok (.ireturn, 1) := dk_172 (dk_at dksX8_law_5 17 rfl rfl)
abbrev cX8_readLine : ByteArray := prog_29_method_34_code
def yX8_readLine : MethodName := ⟨RX8, "readLine", "()V"⟩
def dkwX8_readLine_6 : List UInt8 := [180, 0, 33, 7, 4, 79, 167, 0, 8, 42, 5, 182, 0, 150, 177]
abbrev dktX8_readLine_6 : List UInt8 := dkwX8_readLine_6 ++ []
def dkwX8_readLine_5 : List UInt8 := [180, 0, 33, 6, 4, 79, 167, 0, 31, 42, 18, 173, 182, 0, 165, 153, 0, 17, 42, 182, 0, 154, 42]
abbrev dktX8_readLine_5 : List UInt8 := dkwX8_readLine_5 ++ dktX8_readLine_6
def dkwX8_readLine_4 : List UInt8 := [16, 99, 182, 0, 227, 79, 167, 0, 55, 42, 19, 1, 0, 182, 0, 165, 153, 0, 17, 42, 182, 0, 154, 42]
abbrev dktX8_readLine_4 : List UInt8 := dkwX8_readLine_4 ++ dktX8_readLine_5
def dkwX8_readLine_3 : List UInt8 := [167, 0, 84, 42, 18, 254, 182, 0, 165, 153, 0, 23, 42, 182, 0, 154, 42, 180, 0, 33, 5, 42, 3]
abbrev dktX8_readLine_3 : List UInt8 := dkwX8_readLine_3 ++ dktX8_readLine_4
def dkwX8_readLine_2 : List UInt8 := [182, 0, 227, 60, 42, 180, 0, 134, 154, 0, 15, 42, 180, 0, 33, 4, 92, 46, 4, 27, 120, 128, 79]
abbrev dktX8_readLine_2 : List UInt8 := dkwX8_readLine_2 ++ dktX8_readLine_3
def dkwX8_readLine_1 : List UInt8 := [182, 0, 227, 79, 167, 0, 127, 42, 18, 253, 182, 0, 165, 153, 0, 37, 42, 182, 0, 154, 42, 3, 16, 23]
abbrev dktX8_readLine_1 : List UInt8 := dkwX8_readLine_1 ++ dktX8_readLine_2
def dkwX8_readLine_0 : List UInt8 := [42, 18, 251, 182, 0, 165, 153, 0, 23, 42, 182, 0, 154, 42, 180, 0, 33, 3, 42, 4, 16, 99]
abbrev dktX8_readLine_0 : List UInt8 := dkwX8_readLine_0 ++ dktX8_readLine_1
theorem dksX8_readLine_0 : cX8_readLine.data.toList.drop 0 = dktX8_readLine_0 := by decide +kernel
theorem dksX8_readLine_1 : cX8_readLine.data.toList.drop 22 = dktX8_readLine_1 := dk_seg dksX8_readLine_0 22 rfl rfl
theorem dksX8_readLine_2 : cX8_readLine.data.toList.drop 46 = dktX8_readLine_2 := dk_seg dksX8_readLine_1 24 rfl rfl
theorem dksX8_readLine_3 : cX8_readLine.data.toList.drop 69 = dktX8_readLine_3 := dk_seg dksX8_readLine_2 23 rfl rfl
theorem dksX8_readLine_4 : cX8_readLine.data.toList.drop 92 = dktX8_readLine_4 := dk_seg dksX8_readLine_3 23 rfl rfl
theorem dksX8_readLine_5 : cX8_readLine.data.toList.drop 116 = dktX8_readLine_5 := dk_seg dksX8_readLine_4 24 rfl rfl
theorem dksX8_readLine_6 : cX8_readLine.data.toList.drop 139 = dktX8_readLine_6 := dk_seg dksX8_readLine_5 23 rfl rfl
theorem dX8_readLine_0 : decode cX8_readLine 0 = .ok (.aload_n 0, 1) := dk_42 (dk_at dksX8_readLine_0 0 rfl rfl)
theorem dX8_readLine_1 : decode cX8_readLine 1 = .ok (.ldc 251, 2) := dk_18 251 (dk_at dksX8_readLine_0 1 rfl rfl)
theorem dX8_readLine_3 : decode cX8_readLine 3 = .ok (.invokevirtual 165, 3) := dk_182 0 165 (dk_at dksX8_readLine_0 3 rfl rfl)
theorem dX8_readLine_6 : decode cX8_readLine 6 = .ok (.ifCond .eq 23, 3) := dk_153 0 23 (dk_at dksX8_readLine_0 6 rfl rfl)
theorem dX8_readLine_9 : decode cX8_readLine 9 = .ok (.aload_n 0, 1) := dk_42 (dk_at dksX8_readLine_0 9 rfl rfl)
theorem dX8_readLine_10 : decode cX8_readLine 10 = .ok (.invokevirtual 154, 3) := dk_182 0 154 (dk_at dksX8_readLine_0 10 rfl rfl)
theorem dX8_readLine_13 : decode cX8_readLine 13 = .ok (.aload_n 0, 1) := dk_42 (dk_at dksX8_readLine_0 13 rfl rfl)
theorem dX8_readLine_14 : decode cX8_readLine 14 = .ok (.getfield 33, 3) := dk_180 0 33 (dk_at dksX8_readLine_0 14 rfl rfl)
theorem dX8_readLine_17 : decode cX8_readLine 17 = .ok (.iconst 0, 1) := dk_3 (dk_at dksX8_readLine_0 17 rfl rfl)
theorem dX8_readLine_18 : decode cX8_readLine 18 = .ok (.aload_n 0, 1) := dk_42 (dk_at dksX8_readLine_0 18 rfl rfl)
theorem dX8_readLine_19 : decode cX8_readLine 19 = .ok (.iconst 1, 1) := dk_4 (dk_at dksX8_readLine_0 19 rfl rfl)
theorem dX8_readLine_20 : decode cX8_readLine 20 = .ok (.bipush 99, 2) := dk_16 99 (dk_at dksX8_readLine_0 20 rfl rfl)
theorem dX8_readLine_22 : decode cX8_readLine 22 = .ok (.invokevirtual 227, 3) := dk_182 0 227 (dk_at dksX8_readLine_1 0 rfl rfl)
theorem dX8_readLine_25 : decode cX8_readLine 25 = .ok (.iastore, 1) := dk_79 (dk_at dksX8_readLine_1 3 rfl rfl)
theorem dX8_readLine_26 : decode cX8_readLine 26 = .ok (.goto 127, 3) := dk_167 0 127 (dk_at dksX8_readLine_1 4 rfl rfl)
theorem dX8_readLine_29 : decode cX8_readLine 29 = .ok (.aload_n 0, 1) := dk_42 (dk_at dksX8_readLine_1 7 rfl rfl)
theorem dX8_readLine_30 : decode cX8_readLine 30 = .ok (.ldc 253, 2) := dk_18 253 (dk_at dksX8_readLine_1 8 rfl rfl)
theorem dX8_readLine_32 : decode cX8_readLine 32 = .ok (.invokevirtual 165, 3) := dk_182 0 165 (dk_at dksX8_readLine_1 10 rfl rfl)
theorem dX8_readLine_35 : decode cX8_readLine 35 = .ok (.ifCond .eq 37, 3) := dk_153 0 37 (dk_at dksX8_readLine_1 13 rfl rfl)
theorem dX8_readLine_38 : decode cX8_readLine 38 = .ok (.aload_n 0, 1) := dk_42 (dk_at dksX8_readLine_1 16 rfl rfl)
theorem dX8_readLine_39 : decode cX8_readLine 39 = .ok (.invokevirtual 154, 3) := dk_182 0 154 (dk_at dksX8_readLine_1 17 rfl rfl)
theorem dX8_readLine_42 : decode cX8_readLine 42 = .ok (.aload_n 0, 1) := dk_42 (dk_at dksX8_readLine_1 20 rfl rfl)
theorem dX8_readLine_43 : decode cX8_readLine 43 = .ok (.iconst 0, 1) := dk_3 (dk_at dksX8_readLine_1 21 rfl rfl)
theorem dX8_readLine_44 : decode cX8_readLine 44 = .ok (.bipush 23, 2) := dk_16 23 (dk_at dksX8_readLine_1 22 rfl rfl)
theorem dX8_readLine_46 : decode cX8_readLine 46 = .ok (.invokevirtual 227, 3) := dk_182 0 227 (dk_at dksX8_readLine_2 0 rfl rfl)
theorem dX8_readLine_49 : decode cX8_readLine 49 = .ok (.istore_n 1, 1) := dk_60 (dk_at dksX8_readLine_2 3 rfl rfl)
theorem dX8_readLine_50 : decode cX8_readLine 50 = .ok (.aload_n 0, 1) := dk_42 (dk_at dksX8_readLine_2 4 rfl rfl)
theorem dX8_readLine_51 : decode cX8_readLine 51 = .ok (.getfield 134, 3) := dk_180 0 134 (dk_at dksX8_readLine_2 5 rfl rfl)
theorem dX8_readLine_54 : decode cX8_readLine 54 = .ok (.ifCond .ne 15, 3) := dk_154 0 15 (dk_at dksX8_readLine_2 8 rfl rfl)
theorem dX8_readLine_57 : decode cX8_readLine 57 = .ok (.aload_n 0, 1) := dk_42 (dk_at dksX8_readLine_2 11 rfl rfl)
theorem dX8_readLine_58 : decode cX8_readLine 58 = .ok (.getfield 33, 3) := dk_180 0 33 (dk_at dksX8_readLine_2 12 rfl rfl)
theorem dX8_readLine_61 : decode cX8_readLine 61 = .ok (.iconst 1, 1) := dk_4 (dk_at dksX8_readLine_2 15 rfl rfl)
theorem dX8_readLine_62 : decode cX8_readLine 62 = .ok (.dup2, 1) := dk_92 (dk_at dksX8_readLine_2 16 rfl rfl)
theorem dX8_readLine_63 : decode cX8_readLine 63 = .ok (.iaload, 1) := dk_46 (dk_at dksX8_readLine_2 17 rfl rfl)
theorem dX8_readLine_64 : decode cX8_readLine 64 = .ok (.iconst 1, 1) := dk_4 (dk_at dksX8_readLine_2 18 rfl rfl)
theorem dX8_readLine_65 : decode cX8_readLine 65 = .ok (.iload_n 1, 1) := dk_27 (dk_at dksX8_readLine_2 19 rfl rfl)
theorem dX8_readLine_66 : decode cX8_readLine 66 = .ok (.ishl, 1) := dk_120 (dk_at dksX8_readLine_2 20 rfl rfl)
theorem dX8_readLine_67 : decode cX8_readLine 67 = .ok (.ior, 1) := dk_128 (dk_at dksX8_readLine_2 21 rfl rfl)
theorem dX8_readLine_68 : decode cX8_readLine 68 = .ok (.iastore, 1) := dk_79 (dk_at dksX8_readLine_2 22 rfl rfl)
theorem dX8_readLine_69 : decode cX8_readLine 69 = .ok (.goto 84, 3) := dk_167 0 84 (dk_at dksX8_readLine_3 0 rfl rfl)
theorem dX8_readLine_72 : decode cX8_readLine 72 = .ok (.aload_n 0, 1) := dk_42 (dk_at dksX8_readLine_3 3 rfl rfl)
theorem dX8_readLine_73 : decode cX8_readLine 73 = .ok (.ldc 254, 2) := dk_18 254 (dk_at dksX8_readLine_3 4 rfl rfl)
theorem dX8_readLine_75 : decode cX8_readLine 75 = .ok (.invokevirtual 165, 3) := dk_182 0 165 (dk_at dksX8_readLine_3 6 rfl rfl)
theorem dX8_readLine_78 : decode cX8_readLine 78 = .ok (.ifCond .eq 23, 3) := dk_153 0 23 (dk_at dksX8_readLine_3 9 rfl rfl)
theorem dX8_readLine_81 : decode cX8_readLine 81 = .ok (.aload_n 0, 1) := dk_42 (dk_at dksX8_readLine_3 12 rfl rfl)
theorem dX8_readLine_82 : decode cX8_readLine 82 = .ok (.invokevirtual 154, 3) := dk_182 0 154 (dk_at dksX8_readLine_3 13 rfl rfl)
theorem dX8_readLine_85 : decode cX8_readLine 85 = .ok (.aload_n 0, 1) := dk_42 (dk_at dksX8_readLine_3 16 rfl rfl)
theorem dX8_readLine_86 : decode cX8_readLine 86 = .ok (.getfield 33, 3) := dk_180 0 33 (dk_at dksX8_readLine_3 17 rfl rfl)
theorem dX8_readLine_89 : decode cX8_readLine 89 = .ok (.iconst 2, 1) := dk_5 (dk_at dksX8_readLine_3 20 rfl rfl)
theorem dX8_readLine_90 : decode cX8_readLine 90 = .ok (.aload_n 0, 1) := dk_42 (dk_at dksX8_readLine_3 21 rfl rfl)
theorem dX8_readLine_91 : decode cX8_readLine 91 = .ok (.iconst 0, 1) := dk_3 (dk_at dksX8_readLine_3 22 rfl rfl)
theorem dX8_readLine_92 : decode cX8_readLine 92 = .ok (.bipush 99, 2) := dk_16 99 (dk_at dksX8_readLine_4 0 rfl rfl)
theorem dX8_readLine_94 : decode cX8_readLine 94 = .ok (.invokevirtual 227, 3) := dk_182 0 227 (dk_at dksX8_readLine_4 2 rfl rfl)
theorem dX8_readLine_97 : decode cX8_readLine 97 = .ok (.iastore, 1) := dk_79 (dk_at dksX8_readLine_4 5 rfl rfl)
theorem dX8_readLine_98 : decode cX8_readLine 98 = .ok (.goto 55, 3) := dk_167 0 55 (dk_at dksX8_readLine_4 6 rfl rfl)
theorem dX8_readLine_101 : decode cX8_readLine 101 = .ok (.aload_n 0, 1) := dk_42 (dk_at dksX8_readLine_4 9 rfl rfl)
theorem dX8_readLine_102 : decode cX8_readLine 102 = .ok (.ldc_w 256, 3) := dk_19 1 0 (dk_at dksX8_readLine_4 10 rfl rfl)
theorem dX8_readLine_105 : decode cX8_readLine 105 = .ok (.invokevirtual 165, 3) := dk_182 0 165 (dk_at dksX8_readLine_4 13 rfl rfl)
theorem dX8_readLine_108 : decode cX8_readLine 108 = .ok (.ifCond .eq 17, 3) := dk_153 0 17 (dk_at dksX8_readLine_4 16 rfl rfl)
theorem dX8_readLine_111 : decode cX8_readLine 111 = .ok (.aload_n 0, 1) := dk_42 (dk_at dksX8_readLine_4 19 rfl rfl)
theorem dX8_readLine_112 : decode cX8_readLine 112 = .ok (.invokevirtual 154, 3) := dk_182 0 154 (dk_at dksX8_readLine_4 20 rfl rfl)
theorem dX8_readLine_115 : decode cX8_readLine 115 = .ok (.aload_n 0, 1) := dk_42 (dk_at dksX8_readLine_4 23 rfl rfl)
theorem dX8_readLine_116 : decode cX8_readLine 116 = .ok (.getfield 33, 3) := dk_180 0 33 (dk_at dksX8_readLine_5 0 rfl rfl)
theorem dX8_readLine_119 : decode cX8_readLine 119 = .ok (.iconst 3, 1) := dk_6 (dk_at dksX8_readLine_5 3 rfl rfl)
theorem dX8_readLine_120 : decode cX8_readLine 120 = .ok (.iconst 1, 1) := dk_4 (dk_at dksX8_readLine_5 4 rfl rfl)
theorem dX8_readLine_121 : decode cX8_readLine 121 = .ok (.iastore, 1) := dk_79 (dk_at dksX8_readLine_5 5 rfl rfl)
theorem dX8_readLine_122 : decode cX8_readLine 122 = .ok (.goto 31, 3) := dk_167 0 31 (dk_at dksX8_readLine_5 6 rfl rfl)
theorem dX8_readLine_125 : decode cX8_readLine 125 = .ok (.aload_n 0, 1) := dk_42 (dk_at dksX8_readLine_5 9 rfl rfl)
theorem dX8_readLine_126 : decode cX8_readLine 126 = .ok (.ldc 173, 2) := dk_18 173 (dk_at dksX8_readLine_5 10 rfl rfl)
theorem dX8_readLine_128 : decode cX8_readLine 128 = .ok (.invokevirtual 165, 3) := dk_182 0 165 (dk_at dksX8_readLine_5 12 rfl rfl)
theorem dX8_readLine_131 : decode cX8_readLine 131 = .ok (.ifCond .eq 17, 3) := dk_153 0 17 (dk_at dksX8_readLine_5 15 rfl rfl)
theorem dX8_readLine_134 : decode cX8_readLine 134 = .ok (.aload_n 0, 1) := dk_42 (dk_at dksX8_readLine_5 18 rfl rfl)
theorem dX8_readLine_135 : decode cX8_readLine 135 = .ok (.invokevirtual 154, 3) := dk_182 0 154 (dk_at dksX8_readLine_5 19 rfl rfl)
theorem dX8_readLine_138 : decode cX8_readLine 138 = .ok (.aload_n 0, 1) := dk_42 (dk_at dksX8_readLine_5 22 rfl rfl)
theorem dX8_readLine_139 : decode cX8_readLine 139 = .ok (.getfield 33, 3) := dk_180 0 33 (dk_at dksX8_readLine_6 0 rfl rfl)
theorem dX8_readLine_142 : decode cX8_readLine 142 = .ok (.iconst 4, 1) := dk_7 (dk_at dksX8_readLine_6 3 rfl rfl)
theorem dX8_readLine_143 : decode cX8_readLine 143 = .ok (.iconst 1, 1) := dk_4 (dk_at dksX8_readLine_6 4 rfl rfl)
theorem dX8_readLine_144 : decode cX8_readLine 144 = .ok (.iastore, 1) := dk_79 (dk_at dksX8_readLine_6 5 rfl rfl)
theorem dX8_readLine_145 : decode cX8_readLine 145 = .ok (.goto 8, 3) := dk_167 0 8 (dk_at dksX8_readLine_6 6 rfl rfl)
theorem dX8_readLine_148 : decode cX8_readLine 148 = .ok (.aload_n 0, 1) := dk_42 (dk_at dksX8_readLine_6 9 rfl rfl)
theorem dX8_readLine_149 : decode cX8_readLine 149 = .ok (.iconst 2, 1) := dk_5 (dk_at dksX8_readLine_6 10 rfl rfl)
theorem dX8_readLine_150 : decode cX8_readLine 150 = .ok (.invokevirtual 150, 3) := dk_182 0 150 (dk_at dksX8_readLine_6 11 rfl rfl)
theorem dX8_readLine_153 : decode cX8_readLine 153 = .ok (.return_, 1) := dk_177 (dk_at dksX8_readLine_6 14 rfl rfl)
abbrev cX8_fault : ByteArray := prog_29_method_35_code
def yX8_fault : MethodName := ⟨RX8, "fault", "(I)I"⟩
def dkwX8_fault_1 : List UInt8 := [180, 0, 36, 167, 0, 4, 2, 172]
abbrev dktX8_fault_1 : List UInt8 := dkwX8_fault_1 ++ []
def dkwX8_fault_0 : List UInt8 := [42, 3, 181, 0, 76, 27, 154, 0, 10, 42, 180, 0, 157, 167, 0, 16, 27, 4, 160, 0, 10, 42]
abbrev dktX8_fault_0 : List UInt8 := dkwX8_fault_0 ++ dktX8_fault_1
theorem dksX8_fault_0 : cX8_fault.data.toList.drop 0 = dktX8_fault_0 := by decide +kernel
theorem dksX8_fault_1 : cX8_fault.data.toList.drop 22 = dktX8_fault_1 := dk_seg dksX8_fault_0 22 rfl rfl
theorem dX8_fault_0 : decode cX8_fault 0 = .ok (.aload_n 0, 1) := dk_42 (dk_at dksX8_fault_0 0 rfl rfl)
theorem dX8_fault_1 : decode cX8_fault 1 = .ok (.iconst 0, 1) := dk_3 (dk_at dksX8_fault_0 1 rfl rfl)
theorem dX8_fault_2 : decode cX8_fault 2 = .ok (.putfield 76, 3) := dk_181 0 76 (dk_at dksX8_fault_0 2 rfl rfl)
theorem dX8_fault_5 : decode cX8_fault 5 = .ok (.iload_n 1, 1) := dk_27 (dk_at dksX8_fault_0 5 rfl rfl)
theorem dX8_fault_6 : decode cX8_fault 6 = .ok (.ifCond .ne 10, 3) := dk_154 0 10 (dk_at dksX8_fault_0 6 rfl rfl)
theorem dX8_fault_9 : decode cX8_fault 9 = .ok (.aload_n 0, 1) := dk_42 (dk_at dksX8_fault_0 9 rfl rfl)
theorem dX8_fault_10 : decode cX8_fault 10 = .ok (.getfield 157, 3) := dk_180 0 157 (dk_at dksX8_fault_0 10 rfl rfl)
theorem dX8_fault_13 : decode cX8_fault 13 = .ok (.goto 16, 3) := dk_167 0 16 (dk_at dksX8_fault_0 13 rfl rfl)
theorem dX8_fault_16 : decode cX8_fault 16 = .ok (.iload_n 1, 1) := dk_27 (dk_at dksX8_fault_0 16 rfl rfl)
theorem dX8_fault_17 : decode cX8_fault 17 = .ok (.iconst 1, 1) := dk_4 (dk_at dksX8_fault_0 17 rfl rfl)
theorem dX8_fault_18 : decode cX8_fault 18 = .ok (.if_icmp .ne 10, 3) := dk_160 0 10 (dk_at dksX8_fault_0 18 rfl rfl)
theorem dX8_fault_21 : decode cX8_fault 21 = .ok (.aload_n 0, 1) := dk_42 (dk_at dksX8_fault_0 21 rfl rfl)
theorem dX8_fault_22 : decode cX8_fault 22 = .ok (.getfield 36, 3) := dk_180 0 36 (dk_at dksX8_fault_1 0 rfl rfl)
theorem dX8_fault_25 : decode cX8_fault 25 = .ok (.goto 4, 3) := dk_167 0 4 (dk_at dksX8_fault_1 3 rfl rfl)
theorem dX8_fault_28 : decode cX8_fault 28 = .ok (.iconst (-1), 1) := dk_2 (dk_at dksX8_fault_1 6 rfl rfl)
theorem dX8_fault_29 : decode cX8_fault 29 = .ok (.ireturn, 1) := dk_172 (dk_at dksX8_fault_1 7 rfl rfl)
abbrev cX8_run : ByteArray := prog_29_method_48_code
def yX8_run : MethodName := ⟨RX8, "run", "(I)I"⟩
def dkwX8_run_2 : List UInt8 := [182, 1, 50, 132, 3, 1, 167, 255, 244, 28, 172]
abbrev dktX8_run_2 : List UInt8 := dkwX8_run_2 ++ []
def dkwX8_run_1 : List UInt8 := [17, 11, 184, 42, 180, 0, 9, 5, 46, 100, 184, 1, 13, 61, 3, 62, 29, 28, 162, 0, 13, 42]
abbrev dktX8_run_1 : List UInt8 := dkwX8_run_1 ++ dktX8_run_2
def dkwX8_run_0 : List UInt8 := [42, 3, 181, 0, 76, 27, 133, 9, 20, 1, 48, 184, 0, 79, 154, 0, 9, 42, 4, 182, 0, 83, 172, 27]
abbrev dktX8_run_0 : List UInt8 := dkwX8_run_0 ++ dktX8_run_1
theorem dksX8_run_0 : cX8_run.data.toList.drop 0 = dktX8_run_0 := by decide +kernel
theorem dksX8_run_1 : cX8_run.data.toList.drop 24 = dktX8_run_1 := dk_seg dksX8_run_0 24 rfl rfl
theorem dksX8_run_2 : cX8_run.data.toList.drop 46 = dktX8_run_2 := dk_seg dksX8_run_1 22 rfl rfl
theorem dX8_run_0 : decode cX8_run 0 = .ok (.aload_n 0, 1) := dk_42 (dk_at dksX8_run_0 0 rfl rfl)
theorem dX8_run_1 : decode cX8_run 1 = .ok (.iconst 0, 1) := dk_3 (dk_at dksX8_run_0 1 rfl rfl)
theorem dX8_run_2 : decode cX8_run 2 = .ok (.putfield 76, 3) := dk_181 0 76 (dk_at dksX8_run_0 2 rfl rfl)
theorem dX8_run_5 : decode cX8_run 5 = .ok (.iload_n 1, 1) := dk_27 (dk_at dksX8_run_0 5 rfl rfl)
theorem dX8_run_6 : decode cX8_run 6 = .ok (.i2l, 1) := dk_133 (dk_at dksX8_run_0 6 rfl rfl)
theorem dX8_run_7 : decode cX8_run 7 = .ok (.lconst 0, 1) := dk_9 (dk_at dksX8_run_0 7 rfl rfl)
theorem dX8_run_8 : decode cX8_run 8 = .ok (.ldc2_w 304, 3) := dk_20 1 48 (dk_at dksX8_run_0 8 rfl rfl)
theorem dX8_run_11 : decode cX8_run 11 = .ok (.invokestatic 79, 3) := dk_184 0 79 (dk_at dksX8_run_0 11 rfl rfl)
theorem dX8_run_14 : decode cX8_run 14 = .ok (.ifCond .ne 9, 3) := dk_154 0 9 (dk_at dksX8_run_0 14 rfl rfl)
theorem dX8_run_17 : decode cX8_run 17 = .ok (.aload_n 0, 1) := dk_42 (dk_at dksX8_run_0 17 rfl rfl)
theorem dX8_run_18 : decode cX8_run 18 = .ok (.iconst 1, 1) := dk_4 (dk_at dksX8_run_0 18 rfl rfl)
theorem dX8_run_19 : decode cX8_run 19 = .ok (.invokevirtual 83, 3) := dk_182 0 83 (dk_at dksX8_run_0 19 rfl rfl)
theorem dX8_run_22 : decode cX8_run 22 = .ok (.ireturn, 1) := dk_172 (dk_at dksX8_run_0 22 rfl rfl)
theorem dX8_run_23 : decode cX8_run 23 = .ok (.iload_n 1, 1) := dk_27 (dk_at dksX8_run_0 23 rfl rfl)
theorem dX8_run_24 : decode cX8_run 24 = .ok (.sipush 3000, 3) := dk_17 11 184 (dk_at dksX8_run_1 0 rfl rfl)
theorem dX8_run_27 : decode cX8_run 27 = .ok (.aload_n 0, 1) := dk_42 (dk_at dksX8_run_1 3 rfl rfl)
theorem dX8_run_28 : decode cX8_run 28 = .ok (.getfield 9, 3) := dk_180 0 9 (dk_at dksX8_run_1 4 rfl rfl)
theorem dX8_run_31 : decode cX8_run 31 = .ok (.iconst 2, 1) := dk_5 (dk_at dksX8_run_1 7 rfl rfl)
theorem dX8_run_32 : decode cX8_run 32 = .ok (.iaload, 1) := dk_46 (dk_at dksX8_run_1 8 rfl rfl)
theorem dX8_run_33 : decode cX8_run 33 = .ok (.isub, 1) := dk_100 (dk_at dksX8_run_1 9 rfl rfl)
theorem dX8_run_34 : decode cX8_run 34 = .ok (.invokestatic 269, 3) := dk_184 1 13 (dk_at dksX8_run_1 10 rfl rfl)
theorem dX8_run_37 : decode cX8_run 37 = .ok (.istore_n 2, 1) := dk_61 (dk_at dksX8_run_1 13 rfl rfl)
theorem dX8_run_38 : decode cX8_run 38 = .ok (.iconst 0, 1) := dk_3 (dk_at dksX8_run_1 14 rfl rfl)
theorem dX8_run_39 : decode cX8_run 39 = .ok (.istore_n 3, 1) := dk_62 (dk_at dksX8_run_1 15 rfl rfl)
theorem dX8_run_40 : decode cX8_run 40 = .ok (.iload_n 3, 1) := dk_29 (dk_at dksX8_run_1 16 rfl rfl)
theorem dX8_run_41 : decode cX8_run 41 = .ok (.iload_n 2, 1) := dk_28 (dk_at dksX8_run_1 17 rfl rfl)
theorem dX8_run_42 : decode cX8_run 42 = .ok (.if_icmp .ge 13, 3) := dk_162 0 13 (dk_at dksX8_run_1 18 rfl rfl)
theorem dX8_run_45 : decode cX8_run 45 = .ok (.aload_n 0, 1) := dk_42 (dk_at dksX8_run_1 21 rfl rfl)
theorem dX8_run_46 : decode cX8_run 46 = .ok (.invokevirtual 306, 3) := dk_182 1 50 (dk_at dksX8_run_2 0 rfl rfl)
theorem dX8_run_49 : decode cX8_run 49 = .ok (.iinc 3 1, 3) := dk_132 3 1 (dk_at dksX8_run_2 3 rfl rfl)
theorem dX8_run_52 : decode cX8_run 52 = .ok (.goto (-12), 3) := dk_167 255 244 (dk_at dksX8_run_2 6 rfl rfl)
theorem dX8_run_55 : decode cX8_run 55 = .ok (.iload_n 2, 1) := dk_28 (dk_at dksX8_run_2 9 rfl rfl)
theorem dX8_run_56 : decode cX8_run 56 = .ok (.ireturn, 1) := dk_172 (dk_at dksX8_run_2 10 rfl rfl)
abbrev cX8_hour : ByteArray := prog_29_method_47_code
def yX8_hour : MethodName := ⟨RX8, "hour", "()V"⟩
def dkwX8_hour_10 : List UInt8 := [5, 92, 46, 4, 96, 79, 177]
abbrev dktX8_hour_10 : List UInt8 := dkwX8_hour_10 ++ []
def dkwX8_hour_9 : List UInt8 := [92, 47, 21, 4, 42, 180, 0, 43, 29, 46, 104, 133, 97, 80, 132, 2, 1, 167, 255, 161, 42, 180, 0, 9]
abbrev dktX8_hour_9 : List UInt8 := dkwX8_hour_9 ++ dktX8_hour_10
def dkwX8_hour_8 : List UInt8 := [104, 133, 97, 80, 42, 180, 0, 16, 7, 29, 96, 92, 47, 21, 4, 133, 97, 80, 42, 180, 0, 16, 16, 8]
abbrev dktX8_hour_8 : List UInt8 := dkwX8_hour_8 ++ dktX8_hour_9
def dkwX8_hour_7 : List UInt8 := [180, 0, 16, 29, 92, 47, 21, 4, 42, 180, 0, 43, 29, 46, 42, 180, 0, 9, 16, 8, 29, 96, 46, 100]
abbrev dktX8_hour_7 : List UInt8 := dkwX8_hour_7 ++ dktX8_hour_8
def dkwX8_hour_6 : List UInt8 := [46, 162, 0, 91, 42, 28, 182, 1, 45, 62, 42, 180, 0, 9, 16, 28, 7, 28, 104, 96, 46, 54, 4, 42]
abbrev dktX8_hour_6 : List UInt8 := dkwX8_hour_6 ++ dktX8_hour_7
def dkwX8_hour_5 : List UInt8 := [180, 0, 46, 28, 46, 79, 132, 2, 1, 167, 255, 176, 42, 182, 1, 42, 3, 61, 28, 42, 180, 0, 9, 4]
abbrev dktX8_hour_5 : List UInt8 := dkwX8_hour_5 ++ dktX8_hour_6
def dkwX8_hour_4 : List UInt8 := [180, 0, 46, 28, 46, 79, 42, 180, 0, 9, 17, 7, 93, 7, 27, 17, 1, 0, 112, 104, 96, 28, 96, 42]
abbrev dktX8_hour_4 : List UInt8 := dkwX8_hour_4 ++ dktX8_hour_5
def dkwX8_hour_3 : List UInt8 := [159, 0, 13, 42, 180, 0, 9, 16, 24, 28, 96, 27, 79, 42, 180, 0, 9, 16, 12, 28, 96, 42]
abbrev dktX8_hour_3 : List UInt8 := dkwX8_hour_3 ++ dktX8_hour_4
def dkwX8_hour_2 : List UInt8 := [180, 0, 9, 3, 46, 162, 0, 76, 42, 180, 0, 46, 28, 46, 42, 180, 0, 9, 16, 12, 28, 96, 46]
abbrev dktX8_hour_2 : List UInt8 := dkwX8_hour_2 ++ dktX8_hour_3
def dkwX8_hour_1 : List UInt8 := [42, 180, 0, 46, 28, 42, 28, 27, 182, 1, 39, 79, 132, 2, 1, 167, 255, 231, 3, 61, 28, 42]
abbrev dktX8_hour_1 : List UInt8 := dkwX8_hour_1 ++ dktX8_hour_2
def dkwX8_hour_0 : List UInt8 := [42, 180, 0, 9, 5, 46, 60, 42, 3, 181, 1, 1, 3, 61, 28, 42, 180, 0, 9, 3, 46, 162, 0, 21]
abbrev dktX8_hour_0 : List UInt8 := dkwX8_hour_0 ++ dktX8_hour_1
theorem dksX8_hour_0 : cX8_hour.data.toList.drop 0 = dktX8_hour_0 := by decide +kernel
theorem dksX8_hour_1 : cX8_hour.data.toList.drop 24 = dktX8_hour_1 := dk_seg dksX8_hour_0 24 rfl rfl
theorem dksX8_hour_2 : cX8_hour.data.toList.drop 46 = dktX8_hour_2 := dk_seg dksX8_hour_1 22 rfl rfl
theorem dksX8_hour_3 : cX8_hour.data.toList.drop 69 = dktX8_hour_3 := dk_seg dksX8_hour_2 23 rfl rfl
theorem dksX8_hour_4 : cX8_hour.data.toList.drop 91 = dktX8_hour_4 := dk_seg dksX8_hour_3 22 rfl rfl
theorem dksX8_hour_5 : cX8_hour.data.toList.drop 115 = dktX8_hour_5 := dk_seg dksX8_hour_4 24 rfl rfl
theorem dksX8_hour_6 : cX8_hour.data.toList.drop 139 = dktX8_hour_6 := dk_seg dksX8_hour_5 24 rfl rfl
theorem dksX8_hour_7 : cX8_hour.data.toList.drop 163 = dktX8_hour_7 := dk_seg dksX8_hour_6 24 rfl rfl
theorem dksX8_hour_8 : cX8_hour.data.toList.drop 187 = dktX8_hour_8 := dk_seg dksX8_hour_7 24 rfl rfl
theorem dksX8_hour_9 : cX8_hour.data.toList.drop 211 = dktX8_hour_9 := dk_seg dksX8_hour_8 24 rfl rfl
theorem dksX8_hour_10 : cX8_hour.data.toList.drop 235 = dktX8_hour_10 := dk_seg dksX8_hour_9 24 rfl rfl
theorem dX8_hour_0 : decode cX8_hour 0 = .ok (.aload_n 0, 1) := dk_42 (dk_at dksX8_hour_0 0 rfl rfl)
theorem dX8_hour_1 : decode cX8_hour 1 = .ok (.getfield 9, 3) := dk_180 0 9 (dk_at dksX8_hour_0 1 rfl rfl)
theorem dX8_hour_4 : decode cX8_hour 4 = .ok (.iconst 2, 1) := dk_5 (dk_at dksX8_hour_0 4 rfl rfl)
theorem dX8_hour_5 : decode cX8_hour 5 = .ok (.iaload, 1) := dk_46 (dk_at dksX8_hour_0 5 rfl rfl)
theorem dX8_hour_6 : decode cX8_hour 6 = .ok (.istore_n 1, 1) := dk_60 (dk_at dksX8_hour_0 6 rfl rfl)
theorem dX8_hour_7 : decode cX8_hour 7 = .ok (.aload_n 0, 1) := dk_42 (dk_at dksX8_hour_0 7 rfl rfl)
theorem dX8_hour_8 : decode cX8_hour 8 = .ok (.iconst 0, 1) := dk_3 (dk_at dksX8_hour_0 8 rfl rfl)
theorem dX8_hour_9 : decode cX8_hour 9 = .ok (.putfield 257, 3) := dk_181 1 1 (dk_at dksX8_hour_0 9 rfl rfl)
theorem dX8_hour_12 : decode cX8_hour 12 = .ok (.iconst 0, 1) := dk_3 (dk_at dksX8_hour_0 12 rfl rfl)
theorem dX8_hour_13 : decode cX8_hour 13 = .ok (.istore_n 2, 1) := dk_61 (dk_at dksX8_hour_0 13 rfl rfl)
theorem dX8_hour_14 : decode cX8_hour 14 = .ok (.iload_n 2, 1) := dk_28 (dk_at dksX8_hour_0 14 rfl rfl)
theorem dX8_hour_15 : decode cX8_hour 15 = .ok (.aload_n 0, 1) := dk_42 (dk_at dksX8_hour_0 15 rfl rfl)
theorem dX8_hour_16 : decode cX8_hour 16 = .ok (.getfield 9, 3) := dk_180 0 9 (dk_at dksX8_hour_0 16 rfl rfl)
theorem dX8_hour_19 : decode cX8_hour 19 = .ok (.iconst 0, 1) := dk_3 (dk_at dksX8_hour_0 19 rfl rfl)
theorem dX8_hour_20 : decode cX8_hour 20 = .ok (.iaload, 1) := dk_46 (dk_at dksX8_hour_0 20 rfl rfl)
theorem dX8_hour_21 : decode cX8_hour 21 = .ok (.if_icmp .ge 21, 3) := dk_162 0 21 (dk_at dksX8_hour_0 21 rfl rfl)
theorem dX8_hour_24 : decode cX8_hour 24 = .ok (.aload_n 0, 1) := dk_42 (dk_at dksX8_hour_1 0 rfl rfl)
theorem dX8_hour_25 : decode cX8_hour 25 = .ok (.getfield 46, 3) := dk_180 0 46 (dk_at dksX8_hour_1 1 rfl rfl)
theorem dX8_hour_28 : decode cX8_hour 28 = .ok (.iload_n 2, 1) := dk_28 (dk_at dksX8_hour_1 4 rfl rfl)
theorem dX8_hour_29 : decode cX8_hour 29 = .ok (.aload_n 0, 1) := dk_42 (dk_at dksX8_hour_1 5 rfl rfl)
theorem dX8_hour_30 : decode cX8_hour 30 = .ok (.iload_n 2, 1) := dk_28 (dk_at dksX8_hour_1 6 rfl rfl)
theorem dX8_hour_31 : decode cX8_hour 31 = .ok (.iload_n 1, 1) := dk_27 (dk_at dksX8_hour_1 7 rfl rfl)
theorem dX8_hour_32 : decode cX8_hour 32 = .ok (.invokevirtual 295, 3) := dk_182 1 39 (dk_at dksX8_hour_1 8 rfl rfl)
theorem dX8_hour_35 : decode cX8_hour 35 = .ok (.iastore, 1) := dk_79 (dk_at dksX8_hour_1 11 rfl rfl)
theorem dX8_hour_36 : decode cX8_hour 36 = .ok (.iinc 2 1, 3) := dk_132 2 1 (dk_at dksX8_hour_1 12 rfl rfl)
theorem dX8_hour_39 : decode cX8_hour 39 = .ok (.goto (-25), 3) := dk_167 255 231 (dk_at dksX8_hour_1 15 rfl rfl)
theorem dX8_hour_42 : decode cX8_hour 42 = .ok (.iconst 0, 1) := dk_3 (dk_at dksX8_hour_1 18 rfl rfl)
theorem dX8_hour_43 : decode cX8_hour 43 = .ok (.istore_n 2, 1) := dk_61 (dk_at dksX8_hour_1 19 rfl rfl)
theorem dX8_hour_44 : decode cX8_hour 44 = .ok (.iload_n 2, 1) := dk_28 (dk_at dksX8_hour_1 20 rfl rfl)
theorem dX8_hour_45 : decode cX8_hour 45 = .ok (.aload_n 0, 1) := dk_42 (dk_at dksX8_hour_1 21 rfl rfl)
theorem dX8_hour_46 : decode cX8_hour 46 = .ok (.getfield 9, 3) := dk_180 0 9 (dk_at dksX8_hour_2 0 rfl rfl)
theorem dX8_hour_49 : decode cX8_hour 49 = .ok (.iconst 0, 1) := dk_3 (dk_at dksX8_hour_2 3 rfl rfl)
theorem dX8_hour_50 : decode cX8_hour 50 = .ok (.iaload, 1) := dk_46 (dk_at dksX8_hour_2 4 rfl rfl)
theorem dX8_hour_51 : decode cX8_hour 51 = .ok (.if_icmp .ge 76, 3) := dk_162 0 76 (dk_at dksX8_hour_2 5 rfl rfl)
theorem dX8_hour_54 : decode cX8_hour 54 = .ok (.aload_n 0, 1) := dk_42 (dk_at dksX8_hour_2 8 rfl rfl)
theorem dX8_hour_55 : decode cX8_hour 55 = .ok (.getfield 46, 3) := dk_180 0 46 (dk_at dksX8_hour_2 9 rfl rfl)
theorem dX8_hour_58 : decode cX8_hour 58 = .ok (.iload_n 2, 1) := dk_28 (dk_at dksX8_hour_2 12 rfl rfl)
theorem dX8_hour_59 : decode cX8_hour 59 = .ok (.iaload, 1) := dk_46 (dk_at dksX8_hour_2 13 rfl rfl)
theorem dX8_hour_60 : decode cX8_hour 60 = .ok (.aload_n 0, 1) := dk_42 (dk_at dksX8_hour_2 14 rfl rfl)
theorem dX8_hour_61 : decode cX8_hour 61 = .ok (.getfield 9, 3) := dk_180 0 9 (dk_at dksX8_hour_2 15 rfl rfl)
theorem dX8_hour_64 : decode cX8_hour 64 = .ok (.bipush 12, 2) := dk_16 12 (dk_at dksX8_hour_2 18 rfl rfl)
theorem dX8_hour_66 : decode cX8_hour 66 = .ok (.iload_n 2, 1) := dk_28 (dk_at dksX8_hour_2 20 rfl rfl)
theorem dX8_hour_67 : decode cX8_hour 67 = .ok (.iadd, 1) := dk_96 (dk_at dksX8_hour_2 21 rfl rfl)
theorem dX8_hour_68 : decode cX8_hour 68 = .ok (.iaload, 1) := dk_46 (dk_at dksX8_hour_2 22 rfl rfl)
theorem dX8_hour_69 : decode cX8_hour 69 = .ok (.if_icmp .eq 13, 3) := dk_159 0 13 (dk_at dksX8_hour_3 0 rfl rfl)
theorem dX8_hour_72 : decode cX8_hour 72 = .ok (.aload_n 0, 1) := dk_42 (dk_at dksX8_hour_3 3 rfl rfl)
theorem dX8_hour_73 : decode cX8_hour 73 = .ok (.getfield 9, 3) := dk_180 0 9 (dk_at dksX8_hour_3 4 rfl rfl)
theorem dX8_hour_76 : decode cX8_hour 76 = .ok (.bipush 24, 2) := dk_16 24 (dk_at dksX8_hour_3 7 rfl rfl)
theorem dX8_hour_78 : decode cX8_hour 78 = .ok (.iload_n 2, 1) := dk_28 (dk_at dksX8_hour_3 9 rfl rfl)
theorem dX8_hour_79 : decode cX8_hour 79 = .ok (.iadd, 1) := dk_96 (dk_at dksX8_hour_3 10 rfl rfl)
theorem dX8_hour_80 : decode cX8_hour 80 = .ok (.iload_n 1, 1) := dk_27 (dk_at dksX8_hour_3 11 rfl rfl)
theorem dX8_hour_81 : decode cX8_hour 81 = .ok (.iastore, 1) := dk_79 (dk_at dksX8_hour_3 12 rfl rfl)
theorem dX8_hour_82 : decode cX8_hour 82 = .ok (.aload_n 0, 1) := dk_42 (dk_at dksX8_hour_3 13 rfl rfl)
theorem dX8_hour_83 : decode cX8_hour 83 = .ok (.getfield 9, 3) := dk_180 0 9 (dk_at dksX8_hour_3 14 rfl rfl)
theorem dX8_hour_86 : decode cX8_hour 86 = .ok (.bipush 12, 2) := dk_16 12 (dk_at dksX8_hour_3 17 rfl rfl)
theorem dX8_hour_88 : decode cX8_hour 88 = .ok (.iload_n 2, 1) := dk_28 (dk_at dksX8_hour_3 19 rfl rfl)
theorem dX8_hour_89 : decode cX8_hour 89 = .ok (.iadd, 1) := dk_96 (dk_at dksX8_hour_3 20 rfl rfl)
theorem dX8_hour_90 : decode cX8_hour 90 = .ok (.aload_n 0, 1) := dk_42 (dk_at dksX8_hour_3 21 rfl rfl)
theorem dX8_hour_91 : decode cX8_hour 91 = .ok (.getfield 46, 3) := dk_180 0 46 (dk_at dksX8_hour_4 0 rfl rfl)
theorem dX8_hour_94 : decode cX8_hour 94 = .ok (.iload_n 2, 1) := dk_28 (dk_at dksX8_hour_4 3 rfl rfl)
theorem dX8_hour_95 : decode cX8_hour 95 = .ok (.iaload, 1) := dk_46 (dk_at dksX8_hour_4 4 rfl rfl)
theorem dX8_hour_96 : decode cX8_hour 96 = .ok (.iastore, 1) := dk_79 (dk_at dksX8_hour_4 5 rfl rfl)
theorem dX8_hour_97 : decode cX8_hour 97 = .ok (.aload_n 0, 1) := dk_42 (dk_at dksX8_hour_4 6 rfl rfl)
theorem dX8_hour_98 : decode cX8_hour 98 = .ok (.getfield 9, 3) := dk_180 0 9 (dk_at dksX8_hour_4 7 rfl rfl)
theorem dX8_hour_101 : decode cX8_hour 101 = .ok (.sipush 1885, 3) := dk_17 7 93 (dk_at dksX8_hour_4 10 rfl rfl)
theorem dX8_hour_104 : decode cX8_hour 104 = .ok (.iconst 4, 1) := dk_7 (dk_at dksX8_hour_4 13 rfl rfl)
theorem dX8_hour_105 : decode cX8_hour 105 = .ok (.iload_n 1, 1) := dk_27 (dk_at dksX8_hour_4 14 rfl rfl)
theorem dX8_hour_106 : decode cX8_hour 106 = .ok (.sipush 256, 3) := dk_17 1 0 (dk_at dksX8_hour_4 15 rfl rfl)
theorem dX8_hour_109 : decode cX8_hour 109 = .ok (.irem, 1) := dk_112 (dk_at dksX8_hour_4 18 rfl rfl)
theorem dX8_hour_110 : decode cX8_hour 110 = .ok (.imul, 1) := dk_104 (dk_at dksX8_hour_4 19 rfl rfl)
theorem dX8_hour_111 : decode cX8_hour 111 = .ok (.iadd, 1) := dk_96 (dk_at dksX8_hour_4 20 rfl rfl)
theorem dX8_hour_112 : decode cX8_hour 112 = .ok (.iload_n 2, 1) := dk_28 (dk_at dksX8_hour_4 21 rfl rfl)
theorem dX8_hour_113 : decode cX8_hour 113 = .ok (.iadd, 1) := dk_96 (dk_at dksX8_hour_4 22 rfl rfl)
theorem dX8_hour_114 : decode cX8_hour 114 = .ok (.aload_n 0, 1) := dk_42 (dk_at dksX8_hour_4 23 rfl rfl)
theorem dX8_hour_115 : decode cX8_hour 115 = .ok (.getfield 46, 3) := dk_180 0 46 (dk_at dksX8_hour_5 0 rfl rfl)
theorem dX8_hour_118 : decode cX8_hour 118 = .ok (.iload_n 2, 1) := dk_28 (dk_at dksX8_hour_5 3 rfl rfl)
theorem dX8_hour_119 : decode cX8_hour 119 = .ok (.iaload, 1) := dk_46 (dk_at dksX8_hour_5 4 rfl rfl)
theorem dX8_hour_120 : decode cX8_hour 120 = .ok (.iastore, 1) := dk_79 (dk_at dksX8_hour_5 5 rfl rfl)
theorem dX8_hour_121 : decode cX8_hour 121 = .ok (.iinc 2 1, 3) := dk_132 2 1 (dk_at dksX8_hour_5 6 rfl rfl)
theorem dX8_hour_124 : decode cX8_hour 124 = .ok (.goto (-80), 3) := dk_167 255 176 (dk_at dksX8_hour_5 9 rfl rfl)
theorem dX8_hour_127 : decode cX8_hour 127 = .ok (.aload_n 0, 1) := dk_42 (dk_at dksX8_hour_5 12 rfl rfl)
theorem dX8_hour_128 : decode cX8_hour 128 = .ok (.invokevirtual 298, 3) := dk_182 1 42 (dk_at dksX8_hour_5 13 rfl rfl)
theorem dX8_hour_131 : decode cX8_hour 131 = .ok (.iconst 0, 1) := dk_3 (dk_at dksX8_hour_5 16 rfl rfl)
theorem dX8_hour_132 : decode cX8_hour 132 = .ok (.istore_n 2, 1) := dk_61 (dk_at dksX8_hour_5 17 rfl rfl)
theorem dX8_hour_133 : decode cX8_hour 133 = .ok (.iload_n 2, 1) := dk_28 (dk_at dksX8_hour_5 18 rfl rfl)
theorem dX8_hour_134 : decode cX8_hour 134 = .ok (.aload_n 0, 1) := dk_42 (dk_at dksX8_hour_5 19 rfl rfl)
theorem dX8_hour_135 : decode cX8_hour 135 = .ok (.getfield 9, 3) := dk_180 0 9 (dk_at dksX8_hour_5 20 rfl rfl)
theorem dX8_hour_138 : decode cX8_hour 138 = .ok (.iconst 1, 1) := dk_4 (dk_at dksX8_hour_5 23 rfl rfl)
theorem dX8_hour_139 : decode cX8_hour 139 = .ok (.iaload, 1) := dk_46 (dk_at dksX8_hour_6 0 rfl rfl)
theorem dX8_hour_140 : decode cX8_hour 140 = .ok (.if_icmp .ge 91, 3) := dk_162 0 91 (dk_at dksX8_hour_6 1 rfl rfl)
theorem dX8_hour_143 : decode cX8_hour 143 = .ok (.aload_n 0, 1) := dk_42 (dk_at dksX8_hour_6 4 rfl rfl)
theorem dX8_hour_144 : decode cX8_hour 144 = .ok (.iload_n 2, 1) := dk_28 (dk_at dksX8_hour_6 5 rfl rfl)
theorem dX8_hour_145 : decode cX8_hour 145 = .ok (.invokevirtual 301, 3) := dk_182 1 45 (dk_at dksX8_hour_6 6 rfl rfl)
theorem dX8_hour_148 : decode cX8_hour 148 = .ok (.istore_n 3, 1) := dk_62 (dk_at dksX8_hour_6 9 rfl rfl)
theorem dX8_hour_149 : decode cX8_hour 149 = .ok (.aload_n 0, 1) := dk_42 (dk_at dksX8_hour_6 10 rfl rfl)
theorem dX8_hour_150 : decode cX8_hour 150 = .ok (.getfield 9, 3) := dk_180 0 9 (dk_at dksX8_hour_6 11 rfl rfl)
theorem dX8_hour_153 : decode cX8_hour 153 = .ok (.bipush 28, 2) := dk_16 28 (dk_at dksX8_hour_6 14 rfl rfl)
theorem dX8_hour_155 : decode cX8_hour 155 = .ok (.iconst 4, 1) := dk_7 (dk_at dksX8_hour_6 16 rfl rfl)
theorem dX8_hour_156 : decode cX8_hour 156 = .ok (.iload_n 2, 1) := dk_28 (dk_at dksX8_hour_6 17 rfl rfl)
theorem dX8_hour_157 : decode cX8_hour 157 = .ok (.imul, 1) := dk_104 (dk_at dksX8_hour_6 18 rfl rfl)
theorem dX8_hour_158 : decode cX8_hour 158 = .ok (.iadd, 1) := dk_96 (dk_at dksX8_hour_6 19 rfl rfl)
theorem dX8_hour_159 : decode cX8_hour 159 = .ok (.iaload, 1) := dk_46 (dk_at dksX8_hour_6 20 rfl rfl)
theorem dX8_hour_160 : decode cX8_hour 160 = .ok (.istore 4, 2) := dk_54 4 (dk_at dksX8_hour_6 21 rfl rfl)
theorem dX8_hour_162 : decode cX8_hour 162 = .ok (.aload_n 0, 1) := dk_42 (dk_at dksX8_hour_6 23 rfl rfl)
theorem dX8_hour_163 : decode cX8_hour 163 = .ok (.getfield 16, 3) := dk_180 0 16 (dk_at dksX8_hour_7 0 rfl rfl)
theorem dX8_hour_166 : decode cX8_hour 166 = .ok (.iload_n 3, 1) := dk_29 (dk_at dksX8_hour_7 3 rfl rfl)
theorem dX8_hour_167 : decode cX8_hour 167 = .ok (.dup2, 1) := dk_92 (dk_at dksX8_hour_7 4 rfl rfl)
theorem dX8_hour_168 : decode cX8_hour 168 = .ok (.laload, 1) := dk_47 (dk_at dksX8_hour_7 5 rfl rfl)
theorem dX8_hour_169 : decode cX8_hour 169 = .ok (.iload 4, 2) := dk_21 4 (dk_at dksX8_hour_7 6 rfl rfl)
theorem dX8_hour_171 : decode cX8_hour 171 = .ok (.aload_n 0, 1) := dk_42 (dk_at dksX8_hour_7 8 rfl rfl)
theorem dX8_hour_172 : decode cX8_hour 172 = .ok (.getfield 43, 3) := dk_180 0 43 (dk_at dksX8_hour_7 9 rfl rfl)
theorem dX8_hour_175 : decode cX8_hour 175 = .ok (.iload_n 3, 1) := dk_29 (dk_at dksX8_hour_7 12 rfl rfl)
theorem dX8_hour_176 : decode cX8_hour 176 = .ok (.iaload, 1) := dk_46 (dk_at dksX8_hour_7 13 rfl rfl)
theorem dX8_hour_177 : decode cX8_hour 177 = .ok (.aload_n 0, 1) := dk_42 (dk_at dksX8_hour_7 14 rfl rfl)
theorem dX8_hour_178 : decode cX8_hour 178 = .ok (.getfield 9, 3) := dk_180 0 9 (dk_at dksX8_hour_7 15 rfl rfl)
theorem dX8_hour_181 : decode cX8_hour 181 = .ok (.bipush 8, 2) := dk_16 8 (dk_at dksX8_hour_7 18 rfl rfl)
theorem dX8_hour_183 : decode cX8_hour 183 = .ok (.iload_n 3, 1) := dk_29 (dk_at dksX8_hour_7 20 rfl rfl)
theorem dX8_hour_184 : decode cX8_hour 184 = .ok (.iadd, 1) := dk_96 (dk_at dksX8_hour_7 21 rfl rfl)
theorem dX8_hour_185 : decode cX8_hour 185 = .ok (.iaload, 1) := dk_46 (dk_at dksX8_hour_7 22 rfl rfl)
theorem dX8_hour_186 : decode cX8_hour 186 = .ok (.isub, 1) := dk_100 (dk_at dksX8_hour_7 23 rfl rfl)
theorem dX8_hour_187 : decode cX8_hour 187 = .ok (.imul, 1) := dk_104 (dk_at dksX8_hour_8 0 rfl rfl)
theorem dX8_hour_188 : decode cX8_hour 188 = .ok (.i2l, 1) := dk_133 (dk_at dksX8_hour_8 1 rfl rfl)
theorem dX8_hour_189 : decode cX8_hour 189 = .ok (.ladd, 1) := dk_97 (dk_at dksX8_hour_8 2 rfl rfl)
theorem dX8_hour_190 : decode cX8_hour 190 = .ok (.lastore, 1) := dk_80 (dk_at dksX8_hour_8 3 rfl rfl)
theorem dX8_hour_191 : decode cX8_hour 191 = .ok (.aload_n 0, 1) := dk_42 (dk_at dksX8_hour_8 4 rfl rfl)
theorem dX8_hour_192 : decode cX8_hour 192 = .ok (.getfield 16, 3) := dk_180 0 16 (dk_at dksX8_hour_8 5 rfl rfl)
theorem dX8_hour_195 : decode cX8_hour 195 = .ok (.iconst 4, 1) := dk_7 (dk_at dksX8_hour_8 8 rfl rfl)
theorem dX8_hour_196 : decode cX8_hour 196 = .ok (.iload_n 3, 1) := dk_29 (dk_at dksX8_hour_8 9 rfl rfl)
theorem dX8_hour_197 : decode cX8_hour 197 = .ok (.iadd, 1) := dk_96 (dk_at dksX8_hour_8 10 rfl rfl)
theorem dX8_hour_198 : decode cX8_hour 198 = .ok (.dup2, 1) := dk_92 (dk_at dksX8_hour_8 11 rfl rfl)
theorem dX8_hour_199 : decode cX8_hour 199 = .ok (.laload, 1) := dk_47 (dk_at dksX8_hour_8 12 rfl rfl)
theorem dX8_hour_200 : decode cX8_hour 200 = .ok (.iload 4, 2) := dk_21 4 (dk_at dksX8_hour_8 13 rfl rfl)
theorem dX8_hour_202 : decode cX8_hour 202 = .ok (.i2l, 1) := dk_133 (dk_at dksX8_hour_8 15 rfl rfl)
theorem dX8_hour_203 : decode cX8_hour 203 = .ok (.ladd, 1) := dk_97 (dk_at dksX8_hour_8 16 rfl rfl)
theorem dX8_hour_204 : decode cX8_hour 204 = .ok (.lastore, 1) := dk_80 (dk_at dksX8_hour_8 17 rfl rfl)
theorem dX8_hour_205 : decode cX8_hour 205 = .ok (.aload_n 0, 1) := dk_42 (dk_at dksX8_hour_8 18 rfl rfl)
theorem dX8_hour_206 : decode cX8_hour 206 = .ok (.getfield 16, 3) := dk_180 0 16 (dk_at dksX8_hour_8 19 rfl rfl)
theorem dX8_hour_209 : decode cX8_hour 209 = .ok (.bipush 8, 2) := dk_16 8 (dk_at dksX8_hour_8 22 rfl rfl)
theorem dX8_hour_211 : decode cX8_hour 211 = .ok (.dup2, 1) := dk_92 (dk_at dksX8_hour_9 0 rfl rfl)
theorem dX8_hour_212 : decode cX8_hour 212 = .ok (.laload, 1) := dk_47 (dk_at dksX8_hour_9 1 rfl rfl)
theorem dX8_hour_213 : decode cX8_hour 213 = .ok (.iload 4, 2) := dk_21 4 (dk_at dksX8_hour_9 2 rfl rfl)
theorem dX8_hour_215 : decode cX8_hour 215 = .ok (.aload_n 0, 1) := dk_42 (dk_at dksX8_hour_9 4 rfl rfl)
theorem dX8_hour_216 : decode cX8_hour 216 = .ok (.getfield 43, 3) := dk_180 0 43 (dk_at dksX8_hour_9 5 rfl rfl)
theorem dX8_hour_219 : decode cX8_hour 219 = .ok (.iload_n 3, 1) := dk_29 (dk_at dksX8_hour_9 8 rfl rfl)
theorem dX8_hour_220 : decode cX8_hour 220 = .ok (.iaload, 1) := dk_46 (dk_at dksX8_hour_9 9 rfl rfl)
theorem dX8_hour_221 : decode cX8_hour 221 = .ok (.imul, 1) := dk_104 (dk_at dksX8_hour_9 10 rfl rfl)
theorem dX8_hour_222 : decode cX8_hour 222 = .ok (.i2l, 1) := dk_133 (dk_at dksX8_hour_9 11 rfl rfl)
theorem dX8_hour_223 : decode cX8_hour 223 = .ok (.ladd, 1) := dk_97 (dk_at dksX8_hour_9 12 rfl rfl)
theorem dX8_hour_224 : decode cX8_hour 224 = .ok (.lastore, 1) := dk_80 (dk_at dksX8_hour_9 13 rfl rfl)
theorem dX8_hour_225 : decode cX8_hour 225 = .ok (.iinc 2 1, 3) := dk_132 2 1 (dk_at dksX8_hour_9 14 rfl rfl)
theorem dX8_hour_228 : decode cX8_hour 228 = .ok (.goto (-95), 3) := dk_167 255 161 (dk_at dksX8_hour_9 17 rfl rfl)
theorem dX8_hour_231 : decode cX8_hour 231 = .ok (.aload_n 0, 1) := dk_42 (dk_at dksX8_hour_9 20 rfl rfl)
theorem dX8_hour_232 : decode cX8_hour 232 = .ok (.getfield 9, 3) := dk_180 0 9 (dk_at dksX8_hour_9 21 rfl rfl)
theorem dX8_hour_235 : decode cX8_hour 235 = .ok (.iconst 2, 1) := dk_5 (dk_at dksX8_hour_10 0 rfl rfl)
theorem dX8_hour_236 : decode cX8_hour 236 = .ok (.dup2, 1) := dk_92 (dk_at dksX8_hour_10 1 rfl rfl)
theorem dX8_hour_237 : decode cX8_hour 237 = .ok (.iaload, 1) := dk_46 (dk_at dksX8_hour_10 2 rfl rfl)
theorem dX8_hour_238 : decode cX8_hour 238 = .ok (.iconst 1, 1) := dk_4 (dk_at dksX8_hour_10 3 rfl rfl)
theorem dX8_hour_239 : decode cX8_hour 239 = .ok (.iadd, 1) := dk_96 (dk_at dksX8_hour_10 4 rfl rfl)
theorem dX8_hour_240 : decode cX8_hour 240 = .ok (.iastore, 1) := dk_79 (dk_at dksX8_hour_10 5 rfl rfl)
theorem dX8_hour_241 : decode cX8_hour 241 = .ok (.return_, 1) := dk_177 (dk_at dksX8_hour_10 6 rfl rfl)
abbrev cX8_makes : ByteArray := prog_29_method_44_code
def yX8_makes : MethodName := ⟨RX8, "makes", "(II)I"⟩
def dkwX8_makes_7 : List UInt8 := [167, 0, 4, 29, 172]
abbrev dktX8_makes_7 : List UInt8 := dkwX8_makes_7 ++ []
def dkwX8_makes_6 : List UInt8 := [180, 0, 9, 16, 120, 46, 161, 0, 7, 4, 167, 0, 4, 3, 54, 5, 21, 5, 153, 0, 8, 21, 4]
abbrev dktX8_makes_6 : List UInt8 := dkwX8_makes_6 ++ dktX8_makes_7
def dkwX8_makes_5 : List UInt8 := [4, 126, 4, 160, 0, 34, 42, 180, 0, 9, 16, 120, 46, 2, 159, 0, 19, 42, 27, 28, 182, 1, 19, 42]
abbrev dktX8_makes_5 : List UInt8 := dkwX8_makes_5 ++ dktX8_makes_6
def dkwX8_makes_4 : List UInt8 := [29, 172, 42, 180, 0, 9, 16, 121, 46, 153, 0, 21, 42, 180, 0, 9, 16, 121, 46, 28, 16, 24, 112, 122]
abbrev dktX8_makes_4 : List UInt8 := dkwX8_makes_4 ++ dktX8_makes_5
def dkwX8_makes_3 : List UInt8 := [184, 1, 5, 54, 4, 3, 16, 99, 21, 4, 184, 1, 13, 184, 1, 5, 54, 4, 21, 4, 29, 160, 0, 5]
abbrev dktX8_makes_3 : List UInt8 := dkwX8_makes_3 ++ dktX8_makes_4
def dkwX8_makes_2 : List UInt8 := [16, 124, 46, 4, 160, 0, 25, 21, 4, 29, 159, 0, 19, 21, 4, 42, 180, 0, 9, 16, 8, 27, 96, 46]
abbrev dktX8_makes_2 : List UInt8 := dkwX8_makes_2 ++ dktX8_makes_3
def dkwX8_makes_1 : List UInt8 := [2, 159, 0, 19, 21, 4, 29, 42, 180, 0, 9, 16, 122, 46, 96, 184, 1, 13, 54, 4, 42, 180, 0, 9]
abbrev dktX8_makes_1 : List UInt8 := dkwX8_makes_1 ++ dktX8_makes_2
def dkwX8_makes_0 : List UInt8 := [42, 27, 28, 4, 100, 182, 1, 10, 62, 42, 27, 28, 182, 1, 36, 54, 4, 42, 180, 0, 9, 16, 122, 46]
abbrev dktX8_makes_0 : List UInt8 := dkwX8_makes_0 ++ dktX8_makes_1
theorem dksX8_makes_0 : cX8_makes.data.toList.drop 0 = dktX8_makes_0 := by decide +kernel
theorem dksX8_makes_1 : cX8_makes.data.toList.drop 24 = dktX8_makes_1 := dk_seg dksX8_makes_0 24 rfl rfl
theorem dksX8_makes_2 : cX8_makes.data.toList.drop 48 = dktX8_makes_2 := dk_seg dksX8_makes_1 24 rfl rfl
theorem dksX8_makes_3 : cX8_makes.data.toList.drop 72 = dktX8_makes_3 := dk_seg dksX8_makes_2 24 rfl rfl
theorem dksX8_makes_4 : cX8_makes.data.toList.drop 96 = dktX8_makes_4 := dk_seg dksX8_makes_3 24 rfl rfl
theorem dksX8_makes_5 : cX8_makes.data.toList.drop 120 = dktX8_makes_5 := dk_seg dksX8_makes_4 24 rfl rfl
theorem dksX8_makes_6 : cX8_makes.data.toList.drop 144 = dktX8_makes_6 := dk_seg dksX8_makes_5 24 rfl rfl
theorem dksX8_makes_7 : cX8_makes.data.toList.drop 167 = dktX8_makes_7 := dk_seg dksX8_makes_6 23 rfl rfl
theorem dX8_makes_0 : decode cX8_makes 0 = .ok (.aload_n 0, 1) := dk_42 (dk_at dksX8_makes_0 0 rfl rfl)
theorem dX8_makes_1 : decode cX8_makes 1 = .ok (.iload_n 1, 1) := dk_27 (dk_at dksX8_makes_0 1 rfl rfl)
theorem dX8_makes_2 : decode cX8_makes 2 = .ok (.iload_n 2, 1) := dk_28 (dk_at dksX8_makes_0 2 rfl rfl)
theorem dX8_makes_3 : decode cX8_makes 3 = .ok (.iconst 1, 1) := dk_4 (dk_at dksX8_makes_0 3 rfl rfl)
theorem dX8_makes_4 : decode cX8_makes 4 = .ok (.isub, 1) := dk_100 (dk_at dksX8_makes_0 4 rfl rfl)
theorem dX8_makes_5 : decode cX8_makes 5 = .ok (.invokevirtual 266, 3) := dk_182 1 10 (dk_at dksX8_makes_0 5 rfl rfl)
theorem dX8_makes_8 : decode cX8_makes 8 = .ok (.istore_n 3, 1) := dk_62 (dk_at dksX8_makes_0 8 rfl rfl)
theorem dX8_makes_9 : decode cX8_makes 9 = .ok (.aload_n 0, 1) := dk_42 (dk_at dksX8_makes_0 9 rfl rfl)
theorem dX8_makes_10 : decode cX8_makes 10 = .ok (.iload_n 1, 1) := dk_27 (dk_at dksX8_makes_0 10 rfl rfl)
theorem dX8_makes_11 : decode cX8_makes 11 = .ok (.iload_n 2, 1) := dk_28 (dk_at dksX8_makes_0 11 rfl rfl)
theorem dX8_makes_12 : decode cX8_makes 12 = .ok (.invokevirtual 292, 3) := dk_182 1 36 (dk_at dksX8_makes_0 12 rfl rfl)
theorem dX8_makes_15 : decode cX8_makes 15 = .ok (.istore 4, 2) := dk_54 4 (dk_at dksX8_makes_0 15 rfl rfl)
theorem dX8_makes_17 : decode cX8_makes 17 = .ok (.aload_n 0, 1) := dk_42 (dk_at dksX8_makes_0 17 rfl rfl)
theorem dX8_makes_18 : decode cX8_makes 18 = .ok (.getfield 9, 3) := dk_180 0 9 (dk_at dksX8_makes_0 18 rfl rfl)
theorem dX8_makes_21 : decode cX8_makes 21 = .ok (.bipush 122, 2) := dk_16 122 (dk_at dksX8_makes_0 21 rfl rfl)
theorem dX8_makes_23 : decode cX8_makes 23 = .ok (.iaload, 1) := dk_46 (dk_at dksX8_makes_0 23 rfl rfl)
theorem dX8_makes_24 : decode cX8_makes 24 = .ok (.iconst (-1), 1) := dk_2 (dk_at dksX8_makes_1 0 rfl rfl)
theorem dX8_makes_25 : decode cX8_makes 25 = .ok (.if_icmp .eq 19, 3) := dk_159 0 19 (dk_at dksX8_makes_1 1 rfl rfl)
theorem dX8_makes_28 : decode cX8_makes 28 = .ok (.iload 4, 2) := dk_21 4 (dk_at dksX8_makes_1 4 rfl rfl)
theorem dX8_makes_30 : decode cX8_makes 30 = .ok (.iload_n 3, 1) := dk_29 (dk_at dksX8_makes_1 6 rfl rfl)
theorem dX8_makes_31 : decode cX8_makes 31 = .ok (.aload_n 0, 1) := dk_42 (dk_at dksX8_makes_1 7 rfl rfl)
theorem dX8_makes_32 : decode cX8_makes 32 = .ok (.getfield 9, 3) := dk_180 0 9 (dk_at dksX8_makes_1 8 rfl rfl)
theorem dX8_makes_35 : decode cX8_makes 35 = .ok (.bipush 122, 2) := dk_16 122 (dk_at dksX8_makes_1 11 rfl rfl)
theorem dX8_makes_37 : decode cX8_makes 37 = .ok (.iaload, 1) := dk_46 (dk_at dksX8_makes_1 13 rfl rfl)
theorem dX8_makes_38 : decode cX8_makes 38 = .ok (.iadd, 1) := dk_96 (dk_at dksX8_makes_1 14 rfl rfl)
theorem dX8_makes_39 : decode cX8_makes 39 = .ok (.invokestatic 269, 3) := dk_184 1 13 (dk_at dksX8_makes_1 15 rfl rfl)
theorem dX8_makes_42 : decode cX8_makes 42 = .ok (.istore 4, 2) := dk_54 4 (dk_at dksX8_makes_1 18 rfl rfl)
theorem dX8_makes_44 : decode cX8_makes 44 = .ok (.aload_n 0, 1) := dk_42 (dk_at dksX8_makes_1 20 rfl rfl)
theorem dX8_makes_45 : decode cX8_makes 45 = .ok (.getfield 9, 3) := dk_180 0 9 (dk_at dksX8_makes_1 21 rfl rfl)
theorem dX8_makes_48 : decode cX8_makes 48 = .ok (.bipush 124, 2) := dk_16 124 (dk_at dksX8_makes_2 0 rfl rfl)
theorem dX8_makes_50 : decode cX8_makes 50 = .ok (.iaload, 1) := dk_46 (dk_at dksX8_makes_2 2 rfl rfl)
theorem dX8_makes_51 : decode cX8_makes 51 = .ok (.iconst 1, 1) := dk_4 (dk_at dksX8_makes_2 3 rfl rfl)
theorem dX8_makes_52 : decode cX8_makes 52 = .ok (.if_icmp .ne 25, 3) := dk_160 0 25 (dk_at dksX8_makes_2 4 rfl rfl)
theorem dX8_makes_55 : decode cX8_makes 55 = .ok (.iload 4, 2) := dk_21 4 (dk_at dksX8_makes_2 7 rfl rfl)
theorem dX8_makes_57 : decode cX8_makes 57 = .ok (.iload_n 3, 1) := dk_29 (dk_at dksX8_makes_2 9 rfl rfl)
theorem dX8_makes_58 : decode cX8_makes 58 = .ok (.if_icmp .eq 19, 3) := dk_159 0 19 (dk_at dksX8_makes_2 10 rfl rfl)
theorem dX8_makes_61 : decode cX8_makes 61 = .ok (.iload 4, 2) := dk_21 4 (dk_at dksX8_makes_2 13 rfl rfl)
theorem dX8_makes_63 : decode cX8_makes 63 = .ok (.aload_n 0, 1) := dk_42 (dk_at dksX8_makes_2 15 rfl rfl)
theorem dX8_makes_64 : decode cX8_makes 64 = .ok (.getfield 9, 3) := dk_180 0 9 (dk_at dksX8_makes_2 16 rfl rfl)
theorem dX8_makes_67 : decode cX8_makes 67 = .ok (.bipush 8, 2) := dk_16 8 (dk_at dksX8_makes_2 19 rfl rfl)
theorem dX8_makes_69 : decode cX8_makes 69 = .ok (.iload_n 1, 1) := dk_27 (dk_at dksX8_makes_2 21 rfl rfl)
theorem dX8_makes_70 : decode cX8_makes 70 = .ok (.iadd, 1) := dk_96 (dk_at dksX8_makes_2 22 rfl rfl)
theorem dX8_makes_71 : decode cX8_makes 71 = .ok (.iaload, 1) := dk_46 (dk_at dksX8_makes_2 23 rfl rfl)
theorem dX8_makes_72 : decode cX8_makes 72 = .ok (.invokestatic 261, 3) := dk_184 1 5 (dk_at dksX8_makes_3 0 rfl rfl)
theorem dX8_makes_75 : decode cX8_makes 75 = .ok (.istore 4, 2) := dk_54 4 (dk_at dksX8_makes_3 3 rfl rfl)
theorem dX8_makes_77 : decode cX8_makes 77 = .ok (.iconst 0, 1) := dk_3 (dk_at dksX8_makes_3 5 rfl rfl)
theorem dX8_makes_78 : decode cX8_makes 78 = .ok (.bipush 99, 2) := dk_16 99 (dk_at dksX8_makes_3 6 rfl rfl)
theorem dX8_makes_80 : decode cX8_makes 80 = .ok (.iload 4, 2) := dk_21 4 (dk_at dksX8_makes_3 8 rfl rfl)
theorem dX8_makes_82 : decode cX8_makes 82 = .ok (.invokestatic 269, 3) := dk_184 1 13 (dk_at dksX8_makes_3 10 rfl rfl)
theorem dX8_makes_85 : decode cX8_makes 85 = .ok (.invokestatic 261, 3) := dk_184 1 5 (dk_at dksX8_makes_3 13 rfl rfl)
theorem dX8_makes_88 : decode cX8_makes 88 = .ok (.istore 4, 2) := dk_54 4 (dk_at dksX8_makes_3 16 rfl rfl)
theorem dX8_makes_90 : decode cX8_makes 90 = .ok (.iload 4, 2) := dk_21 4 (dk_at dksX8_makes_3 18 rfl rfl)
theorem dX8_makes_92 : decode cX8_makes 92 = .ok (.iload_n 3, 1) := dk_29 (dk_at dksX8_makes_3 20 rfl rfl)
theorem dX8_makes_93 : decode cX8_makes 93 = .ok (.if_icmp .ne 5, 3) := dk_160 0 5 (dk_at dksX8_makes_3 21 rfl rfl)
theorem dX8_makes_96 : decode cX8_makes 96 = .ok (.iload_n 3, 1) := dk_29 (dk_at dksX8_makes_4 0 rfl rfl)
theorem dX8_makes_97 : decode cX8_makes 97 = .ok (.ireturn, 1) := dk_172 (dk_at dksX8_makes_4 1 rfl rfl)
theorem dX8_makes_98 : decode cX8_makes 98 = .ok (.aload_n 0, 1) := dk_42 (dk_at dksX8_makes_4 2 rfl rfl)
theorem dX8_makes_99 : decode cX8_makes 99 = .ok (.getfield 9, 3) := dk_180 0 9 (dk_at dksX8_makes_4 3 rfl rfl)
theorem dX8_makes_102 : decode cX8_makes 102 = .ok (.bipush 121, 2) := dk_16 121 (dk_at dksX8_makes_4 6 rfl rfl)
theorem dX8_makes_104 : decode cX8_makes 104 = .ok (.iaload, 1) := dk_46 (dk_at dksX8_makes_4 8 rfl rfl)
theorem dX8_makes_105 : decode cX8_makes 105 = .ok (.ifCond .eq 21, 3) := dk_153 0 21 (dk_at dksX8_makes_4 9 rfl rfl)
theorem dX8_makes_108 : decode cX8_makes 108 = .ok (.aload_n 0, 1) := dk_42 (dk_at dksX8_makes_4 12 rfl rfl)
theorem dX8_makes_109 : decode cX8_makes 109 = .ok (.getfield 9, 3) := dk_180 0 9 (dk_at dksX8_makes_4 13 rfl rfl)
theorem dX8_makes_112 : decode cX8_makes 112 = .ok (.bipush 121, 2) := dk_16 121 (dk_at dksX8_makes_4 16 rfl rfl)
theorem dX8_makes_114 : decode cX8_makes 114 = .ok (.iaload, 1) := dk_46 (dk_at dksX8_makes_4 18 rfl rfl)
theorem dX8_makes_115 : decode cX8_makes 115 = .ok (.iload_n 2, 1) := dk_28 (dk_at dksX8_makes_4 19 rfl rfl)
theorem dX8_makes_116 : decode cX8_makes 116 = .ok (.bipush 24, 2) := dk_16 24 (dk_at dksX8_makes_4 20 rfl rfl)
theorem dX8_makes_118 : decode cX8_makes 118 = .ok (.irem, 1) := dk_112 (dk_at dksX8_makes_4 22 rfl rfl)
theorem dX8_makes_119 : decode cX8_makes 119 = .ok (.ishr, 1) := dk_122 (dk_at dksX8_makes_4 23 rfl rfl)
theorem dX8_makes_120 : decode cX8_makes 120 = .ok (.iconst 1, 1) := dk_4 (dk_at dksX8_makes_5 0 rfl rfl)
theorem dX8_makes_121 : decode cX8_makes 121 = .ok (.iand, 1) := dk_126 (dk_at dksX8_makes_5 1 rfl rfl)
theorem dX8_makes_122 : decode cX8_makes 122 = .ok (.iconst 1, 1) := dk_4 (dk_at dksX8_makes_5 2 rfl rfl)
theorem dX8_makes_123 : decode cX8_makes 123 = .ok (.if_icmp .ne 34, 3) := dk_160 0 34 (dk_at dksX8_makes_5 3 rfl rfl)
theorem dX8_makes_126 : decode cX8_makes 126 = .ok (.aload_n 0, 1) := dk_42 (dk_at dksX8_makes_5 6 rfl rfl)
theorem dX8_makes_127 : decode cX8_makes 127 = .ok (.getfield 9, 3) := dk_180 0 9 (dk_at dksX8_makes_5 7 rfl rfl)
theorem dX8_makes_130 : decode cX8_makes 130 = .ok (.bipush 120, 2) := dk_16 120 (dk_at dksX8_makes_5 10 rfl rfl)
theorem dX8_makes_132 : decode cX8_makes 132 = .ok (.iaload, 1) := dk_46 (dk_at dksX8_makes_5 12 rfl rfl)
theorem dX8_makes_133 : decode cX8_makes 133 = .ok (.iconst (-1), 1) := dk_2 (dk_at dksX8_makes_5 13 rfl rfl)
theorem dX8_makes_134 : decode cX8_makes 134 = .ok (.if_icmp .eq 19, 3) := dk_159 0 19 (dk_at dksX8_makes_5 14 rfl rfl)
theorem dX8_makes_137 : decode cX8_makes 137 = .ok (.aload_n 0, 1) := dk_42 (dk_at dksX8_makes_5 17 rfl rfl)
theorem dX8_makes_138 : decode cX8_makes 138 = .ok (.iload_n 1, 1) := dk_27 (dk_at dksX8_makes_5 18 rfl rfl)
theorem dX8_makes_139 : decode cX8_makes 139 = .ok (.iload_n 2, 1) := dk_28 (dk_at dksX8_makes_5 19 rfl rfl)
theorem dX8_makes_140 : decode cX8_makes 140 = .ok (.invokevirtual 275, 3) := dk_182 1 19 (dk_at dksX8_makes_5 20 rfl rfl)
theorem dX8_makes_143 : decode cX8_makes 143 = .ok (.aload_n 0, 1) := dk_42 (dk_at dksX8_makes_5 23 rfl rfl)
theorem dX8_makes_144 : decode cX8_makes 144 = .ok (.getfield 9, 3) := dk_180 0 9 (dk_at dksX8_makes_6 0 rfl rfl)
theorem dX8_makes_147 : decode cX8_makes 147 = .ok (.bipush 120, 2) := dk_16 120 (dk_at dksX8_makes_6 3 rfl rfl)
theorem dX8_makes_149 : decode cX8_makes 149 = .ok (.iaload, 1) := dk_46 (dk_at dksX8_makes_6 5 rfl rfl)
theorem dX8_makes_150 : decode cX8_makes 150 = .ok (.if_icmp .lt 7, 3) := dk_161 0 7 (dk_at dksX8_makes_6 6 rfl rfl)
theorem dX8_makes_153 : decode cX8_makes 153 = .ok (.iconst 1, 1) := dk_4 (dk_at dksX8_makes_6 9 rfl rfl)
theorem dX8_makes_154 : decode cX8_makes 154 = .ok (.goto 4, 3) := dk_167 0 4 (dk_at dksX8_makes_6 10 rfl rfl)
theorem dX8_makes_157 : decode cX8_makes 157 = .ok (.iconst 0, 1) := dk_3 (dk_at dksX8_makes_6 13 rfl rfl)
theorem dX8_makes_158 : decode cX8_makes 158 = .ok (.istore 5, 2) := dk_54 5 (dk_at dksX8_makes_6 14 rfl rfl)
theorem dX8_makes_160 : decode cX8_makes 160 = .ok (.iload 5, 2) := dk_21 5 (dk_at dksX8_makes_6 16 rfl rfl)
theorem dX8_makes_162 : decode cX8_makes 162 = .ok (.ifCond .eq 8, 3) := dk_153 0 8 (dk_at dksX8_makes_6 18 rfl rfl)
theorem dX8_makes_165 : decode cX8_makes 165 = .ok (.iload 4, 2) := dk_21 4 (dk_at dksX8_makes_6 21 rfl rfl)
theorem dX8_makes_167 : decode cX8_makes 167 = .ok (.goto 4, 3) := dk_167 0 4 (dk_at dksX8_makes_7 0 rfl rfl)
theorem dX8_makes_170 : decode cX8_makes 170 = .ok (.iload_n 3, 1) := dk_29 (dk_at dksX8_makes_7 3 rfl rfl)
theorem dX8_makes_171 : decode cX8_makes 171 = .ok (.ireturn, 1) := dk_172 (dk_at dksX8_makes_7 4 rfl rfl)
abbrev cX8_seen : ByteArray := prog_29_method_36_code
def yX8_seen : MethodName := ⟨RX8, "seen", "(II)I"⟩
def dkwX8_seen_2 : List UInt8 := [17, 7, 93, 7, 28, 17, 1, 0, 112, 104, 96, 27, 96, 46, 172]
abbrev dktX8_seen_2 : List UInt8 := dkwX8_seen_2 ++ []
def dkwX8_seen_1 : List UInt8 := [46, 172, 28, 156, 0, 15, 42, 180, 0, 9, 16, 20, 27, 96, 46, 167, 0, 21, 42, 180, 0, 9]
abbrev dktX8_seen_1 : List UInt8 := dkwX8_seen_1 ++ dktX8_seen_2
def dkwX8_seen_0 : List UInt8 := [42, 180, 1, 1, 153, 0, 22, 42, 180, 0, 9, 17, 11, 93, 7, 3, 28, 184, 1, 5, 104, 96, 27, 96]
abbrev dktX8_seen_0 : List UInt8 := dkwX8_seen_0 ++ dktX8_seen_1
theorem dksX8_seen_0 : cX8_seen.data.toList.drop 0 = dktX8_seen_0 := by decide +kernel
theorem dksX8_seen_1 : cX8_seen.data.toList.drop 24 = dktX8_seen_1 := dk_seg dksX8_seen_0 24 rfl rfl
theorem dksX8_seen_2 : cX8_seen.data.toList.drop 46 = dktX8_seen_2 := dk_seg dksX8_seen_1 22 rfl rfl
theorem dX8_seen_0 : decode cX8_seen 0 = .ok (.aload_n 0, 1) := dk_42 (dk_at dksX8_seen_0 0 rfl rfl)
theorem dX8_seen_1 : decode cX8_seen 1 = .ok (.getfield 257, 3) := dk_180 1 1 (dk_at dksX8_seen_0 1 rfl rfl)
theorem dX8_seen_4 : decode cX8_seen 4 = .ok (.ifCond .eq 22, 3) := dk_153 0 22 (dk_at dksX8_seen_0 4 rfl rfl)
theorem dX8_seen_7 : decode cX8_seen 7 = .ok (.aload_n 0, 1) := dk_42 (dk_at dksX8_seen_0 7 rfl rfl)
theorem dX8_seen_8 : decode cX8_seen 8 = .ok (.getfield 9, 3) := dk_180 0 9 (dk_at dksX8_seen_0 8 rfl rfl)
theorem dX8_seen_11 : decode cX8_seen 11 = .ok (.sipush 2909, 3) := dk_17 11 93 (dk_at dksX8_seen_0 11 rfl rfl)
theorem dX8_seen_14 : decode cX8_seen 14 = .ok (.iconst 4, 1) := dk_7 (dk_at dksX8_seen_0 14 rfl rfl)
theorem dX8_seen_15 : decode cX8_seen 15 = .ok (.iconst 0, 1) := dk_3 (dk_at dksX8_seen_0 15 rfl rfl)
theorem dX8_seen_16 : decode cX8_seen 16 = .ok (.iload_n 2, 1) := dk_28 (dk_at dksX8_seen_0 16 rfl rfl)
theorem dX8_seen_17 : decode cX8_seen 17 = .ok (.invokestatic 261, 3) := dk_184 1 5 (dk_at dksX8_seen_0 17 rfl rfl)
theorem dX8_seen_20 : decode cX8_seen 20 = .ok (.imul, 1) := dk_104 (dk_at dksX8_seen_0 20 rfl rfl)
theorem dX8_seen_21 : decode cX8_seen 21 = .ok (.iadd, 1) := dk_96 (dk_at dksX8_seen_0 21 rfl rfl)
theorem dX8_seen_22 : decode cX8_seen 22 = .ok (.iload_n 1, 1) := dk_27 (dk_at dksX8_seen_0 22 rfl rfl)
theorem dX8_seen_23 : decode cX8_seen 23 = .ok (.iadd, 1) := dk_96 (dk_at dksX8_seen_0 23 rfl rfl)
theorem dX8_seen_24 : decode cX8_seen 24 = .ok (.iaload, 1) := dk_46 (dk_at dksX8_seen_1 0 rfl rfl)
theorem dX8_seen_25 : decode cX8_seen 25 = .ok (.ireturn, 1) := dk_172 (dk_at dksX8_seen_1 1 rfl rfl)
theorem dX8_seen_26 : decode cX8_seen 26 = .ok (.iload_n 2, 1) := dk_28 (dk_at dksX8_seen_1 2 rfl rfl)
theorem dX8_seen_27 : decode cX8_seen 27 = .ok (.ifCond .ge 15, 3) := dk_156 0 15 (dk_at dksX8_seen_1 3 rfl rfl)
theorem dX8_seen_30 : decode cX8_seen 30 = .ok (.aload_n 0, 1) := dk_42 (dk_at dksX8_seen_1 6 rfl rfl)
theorem dX8_seen_31 : decode cX8_seen 31 = .ok (.getfield 9, 3) := dk_180 0 9 (dk_at dksX8_seen_1 7 rfl rfl)
theorem dX8_seen_34 : decode cX8_seen 34 = .ok (.bipush 20, 2) := dk_16 20 (dk_at dksX8_seen_1 10 rfl rfl)
theorem dX8_seen_36 : decode cX8_seen 36 = .ok (.iload_n 1, 1) := dk_27 (dk_at dksX8_seen_1 12 rfl rfl)
theorem dX8_seen_37 : decode cX8_seen 37 = .ok (.iadd, 1) := dk_96 (dk_at dksX8_seen_1 13 rfl rfl)
theorem dX8_seen_38 : decode cX8_seen 38 = .ok (.iaload, 1) := dk_46 (dk_at dksX8_seen_1 14 rfl rfl)
theorem dX8_seen_39 : decode cX8_seen 39 = .ok (.goto 21, 3) := dk_167 0 21 (dk_at dksX8_seen_1 15 rfl rfl)
theorem dX8_seen_42 : decode cX8_seen 42 = .ok (.aload_n 0, 1) := dk_42 (dk_at dksX8_seen_1 18 rfl rfl)
theorem dX8_seen_43 : decode cX8_seen 43 = .ok (.getfield 9, 3) := dk_180 0 9 (dk_at dksX8_seen_1 19 rfl rfl)
theorem dX8_seen_46 : decode cX8_seen 46 = .ok (.sipush 1885, 3) := dk_17 7 93 (dk_at dksX8_seen_2 0 rfl rfl)
theorem dX8_seen_49 : decode cX8_seen 49 = .ok (.iconst 4, 1) := dk_7 (dk_at dksX8_seen_2 3 rfl rfl)
theorem dX8_seen_50 : decode cX8_seen 50 = .ok (.iload_n 2, 1) := dk_28 (dk_at dksX8_seen_2 4 rfl rfl)
theorem dX8_seen_51 : decode cX8_seen 51 = .ok (.sipush 256, 3) := dk_17 1 0 (dk_at dksX8_seen_2 5 rfl rfl)
theorem dX8_seen_54 : decode cX8_seen 54 = .ok (.irem, 1) := dk_112 (dk_at dksX8_seen_2 8 rfl rfl)
theorem dX8_seen_55 : decode cX8_seen 55 = .ok (.imul, 1) := dk_104 (dk_at dksX8_seen_2 9 rfl rfl)
theorem dX8_seen_56 : decode cX8_seen 56 = .ok (.iadd, 1) := dk_96 (dk_at dksX8_seen_2 10 rfl rfl)
theorem dX8_seen_57 : decode cX8_seen 57 = .ok (.iload_n 1, 1) := dk_27 (dk_at dksX8_seen_2 11 rfl rfl)
theorem dX8_seen_58 : decode cX8_seen 58 = .ok (.iadd, 1) := dk_96 (dk_at dksX8_seen_2 12 rfl rfl)
theorem dX8_seen_59 : decode cX8_seen 59 = .ok (.iaload, 1) := dk_46 (dk_at dksX8_seen_2 13 rfl rfl)
theorem dX8_seen_60 : decode cX8_seen 60 = .ok (.ireturn, 1) := dk_172 (dk_at dksX8_seen_2 14 rfl rfl)
abbrev cX8_wish : ByteArray := prog_29_method_43_code
def yX8_wish : MethodName := ⟨RX8, "wish", "(II)I"⟩
def dkwX8_wish_7 : List UInt8 := [167, 255, 114, 29, 172]
abbrev dktX8_wish_7 : List UInt8 := dkwX8_wish_7 ++ []
def dkwX8_wish_6 : List UInt8 := [42, 27, 28, 3, 182, 1, 16, 172, 29, 172, 21, 4, 6, 21, 6, 96, 96, 54, 4, 132, 5, 1]
abbrev dktX8_wish_6 : List UInt8 := dkwX8_wish_6 ++ dktX8_wish_7
def dkwX8_wish_5 : List UInt8 := [29, 21, 7, 96, 172, 29, 21, 7, 100, 172, 21, 7, 172, 42, 27, 28, 3, 182, 1, 16, 21, 7, 100, 172]
abbrev dktX8_wish_5 : List UInt8 := dkwX8_wish_5 ++ dktX8_wish_6
def dkwX8_wish_4 : List UInt8 := [170, 0, 0, 0, 0, 66, 0, 0, 0, 0, 0, 0, 0, 4, 0, 0, 0, 34, 0, 0, 0, 39, 0, 0, 0, 44, 0, 0, 0, 47, 0, 0, 0, 58]
abbrev dktX8_wish_4 : List UInt8 := dkwX8_wish_4 ++ dktX8_wish_5
def dkwX8_wish_3 : List UInt8 := [21, 4, 4, 96, 46, 54, 7, 42, 180, 0, 9, 21, 4, 46]
abbrev dktX8_wish_3 : List UInt8 := dkwX8_wish_3 ++ dktX8_wish_4
def dkwX8_wish_2 : List UInt8 := [5, 96, 46, 54, 6, 42, 21, 4, 6, 96, 21, 6, 27, 28, 182, 1, 32, 153, 0, 89, 42, 180, 0, 9]
abbrev dktX8_wish_2 : List UInt8 := dkwX8_wish_2 ++ dktX8_wish_3
def dkwX8_wish_1 : List UInt8 := [21, 5, 42, 180, 0, 9, 16, 125, 17, 1, 184, 27, 104, 96, 46, 162, 0, 130, 42, 180, 0, 9, 21, 4]
abbrev dktX8_wish_1 : List UInt8 := dkwX8_wish_1 ++ dktX8_wish_2
def dkwX8_wish_0 : List UInt8 := [42, 27, 28, 4, 100, 182, 1, 10, 62, 16, 125, 17, 1, 184, 27, 104, 96, 4, 96, 54, 4, 3, 54, 5]
abbrev dktX8_wish_0 : List UInt8 := dkwX8_wish_0 ++ dktX8_wish_1
theorem dksX8_wish_0 : cX8_wish.data.toList.drop 0 = dktX8_wish_0 := by decide +kernel
theorem dksX8_wish_1 : cX8_wish.data.toList.drop 24 = dktX8_wish_1 := dk_seg dksX8_wish_0 24 rfl rfl
theorem dksX8_wish_2 : cX8_wish.data.toList.drop 48 = dktX8_wish_2 := dk_seg dksX8_wish_1 24 rfl rfl
theorem dksX8_wish_3 : cX8_wish.data.toList.drop 72 = dktX8_wish_3 := dk_seg dksX8_wish_2 24 rfl rfl
theorem dksX8_wish_4 : cX8_wish.data.toList.drop 86 = dktX8_wish_4 := dk_seg dksX8_wish_3 14 rfl rfl
theorem dksX8_wish_5 : cX8_wish.data.toList.drop 120 = dktX8_wish_5 := dk_seg dksX8_wish_4 34 rfl rfl
theorem dksX8_wish_6 : cX8_wish.data.toList.drop 144 = dktX8_wish_6 := dk_seg dksX8_wish_5 24 rfl rfl
theorem dksX8_wish_7 : cX8_wish.data.toList.drop 166 = dktX8_wish_7 := dk_seg dksX8_wish_6 22 rfl rfl
theorem dX8_wish_0 : decode cX8_wish 0 = .ok (.aload_n 0, 1) := dk_42 (dk_at dksX8_wish_0 0 rfl rfl)
theorem dX8_wish_1 : decode cX8_wish 1 = .ok (.iload_n 1, 1) := dk_27 (dk_at dksX8_wish_0 1 rfl rfl)
theorem dX8_wish_2 : decode cX8_wish 2 = .ok (.iload_n 2, 1) := dk_28 (dk_at dksX8_wish_0 2 rfl rfl)
theorem dX8_wish_3 : decode cX8_wish 3 = .ok (.iconst 1, 1) := dk_4 (dk_at dksX8_wish_0 3 rfl rfl)
theorem dX8_wish_4 : decode cX8_wish 4 = .ok (.isub, 1) := dk_100 (dk_at dksX8_wish_0 4 rfl rfl)
theorem dX8_wish_5 : decode cX8_wish 5 = .ok (.invokevirtual 266, 3) := dk_182 1 10 (dk_at dksX8_wish_0 5 rfl rfl)
theorem dX8_wish_8 : decode cX8_wish 8 = .ok (.istore_n 3, 1) := dk_62 (dk_at dksX8_wish_0 8 rfl rfl)
theorem dX8_wish_9 : decode cX8_wish 9 = .ok (.bipush 125, 2) := dk_16 125 (dk_at dksX8_wish_0 9 rfl rfl)
theorem dX8_wish_11 : decode cX8_wish 11 = .ok (.sipush 440, 3) := dk_17 1 184 (dk_at dksX8_wish_0 11 rfl rfl)
theorem dX8_wish_14 : decode cX8_wish 14 = .ok (.iload_n 1, 1) := dk_27 (dk_at dksX8_wish_0 14 rfl rfl)
theorem dX8_wish_15 : decode cX8_wish 15 = .ok (.imul, 1) := dk_104 (dk_at dksX8_wish_0 15 rfl rfl)
theorem dX8_wish_16 : decode cX8_wish 16 = .ok (.iadd, 1) := dk_96 (dk_at dksX8_wish_0 16 rfl rfl)
theorem dX8_wish_17 : decode cX8_wish 17 = .ok (.iconst 1, 1) := dk_4 (dk_at dksX8_wish_0 17 rfl rfl)
theorem dX8_wish_18 : decode cX8_wish 18 = .ok (.iadd, 1) := dk_96 (dk_at dksX8_wish_0 18 rfl rfl)
theorem dX8_wish_19 : decode cX8_wish 19 = .ok (.istore 4, 2) := dk_54 4 (dk_at dksX8_wish_0 19 rfl rfl)
theorem dX8_wish_21 : decode cX8_wish 21 = .ok (.iconst 0, 1) := dk_3 (dk_at dksX8_wish_0 21 rfl rfl)
theorem dX8_wish_22 : decode cX8_wish 22 = .ok (.istore 5, 2) := dk_54 5 (dk_at dksX8_wish_0 22 rfl rfl)
theorem dX8_wish_24 : decode cX8_wish 24 = .ok (.iload 5, 2) := dk_21 5 (dk_at dksX8_wish_1 0 rfl rfl)
theorem dX8_wish_26 : decode cX8_wish 26 = .ok (.aload_n 0, 1) := dk_42 (dk_at dksX8_wish_1 2 rfl rfl)
theorem dX8_wish_27 : decode cX8_wish 27 = .ok (.getfield 9, 3) := dk_180 0 9 (dk_at dksX8_wish_1 3 rfl rfl)
theorem dX8_wish_30 : decode cX8_wish 30 = .ok (.bipush 125, 2) := dk_16 125 (dk_at dksX8_wish_1 6 rfl rfl)
theorem dX8_wish_32 : decode cX8_wish 32 = .ok (.sipush 440, 3) := dk_17 1 184 (dk_at dksX8_wish_1 8 rfl rfl)
theorem dX8_wish_35 : decode cX8_wish 35 = .ok (.iload_n 1, 1) := dk_27 (dk_at dksX8_wish_1 11 rfl rfl)
theorem dX8_wish_36 : decode cX8_wish 36 = .ok (.imul, 1) := dk_104 (dk_at dksX8_wish_1 12 rfl rfl)
theorem dX8_wish_37 : decode cX8_wish 37 = .ok (.iadd, 1) := dk_96 (dk_at dksX8_wish_1 13 rfl rfl)
theorem dX8_wish_38 : decode cX8_wish 38 = .ok (.iaload, 1) := dk_46 (dk_at dksX8_wish_1 14 rfl rfl)
theorem dX8_wish_39 : decode cX8_wish 39 = .ok (.if_icmp .ge 130, 3) := dk_162 0 130 (dk_at dksX8_wish_1 15 rfl rfl)
theorem dX8_wish_42 : decode cX8_wish 42 = .ok (.aload_n 0, 1) := dk_42 (dk_at dksX8_wish_1 18 rfl rfl)
theorem dX8_wish_43 : decode cX8_wish 43 = .ok (.getfield 9, 3) := dk_180 0 9 (dk_at dksX8_wish_1 19 rfl rfl)
theorem dX8_wish_46 : decode cX8_wish 46 = .ok (.iload 4, 2) := dk_21 4 (dk_at dksX8_wish_1 22 rfl rfl)
theorem dX8_wish_48 : decode cX8_wish 48 = .ok (.iconst 2, 1) := dk_5 (dk_at dksX8_wish_2 0 rfl rfl)
theorem dX8_wish_49 : decode cX8_wish 49 = .ok (.iadd, 1) := dk_96 (dk_at dksX8_wish_2 1 rfl rfl)
theorem dX8_wish_50 : decode cX8_wish 50 = .ok (.iaload, 1) := dk_46 (dk_at dksX8_wish_2 2 rfl rfl)
theorem dX8_wish_51 : decode cX8_wish 51 = .ok (.istore 6, 2) := dk_54 6 (dk_at dksX8_wish_2 3 rfl rfl)
theorem dX8_wish_53 : decode cX8_wish 53 = .ok (.aload_n 0, 1) := dk_42 (dk_at dksX8_wish_2 5 rfl rfl)
theorem dX8_wish_54 : decode cX8_wish 54 = .ok (.iload 4, 2) := dk_21 4 (dk_at dksX8_wish_2 6 rfl rfl)
theorem dX8_wish_56 : decode cX8_wish 56 = .ok (.iconst 3, 1) := dk_6 (dk_at dksX8_wish_2 8 rfl rfl)
theorem dX8_wish_57 : decode cX8_wish 57 = .ok (.iadd, 1) := dk_96 (dk_at dksX8_wish_2 9 rfl rfl)
theorem dX8_wish_58 : decode cX8_wish 58 = .ok (.iload 6, 2) := dk_21 6 (dk_at dksX8_wish_2 10 rfl rfl)
theorem dX8_wish_60 : decode cX8_wish 60 = .ok (.iload_n 1, 1) := dk_27 (dk_at dksX8_wish_2 12 rfl rfl)
theorem dX8_wish_61 : decode cX8_wish 61 = .ok (.iload_n 2, 1) := dk_28 (dk_at dksX8_wish_2 13 rfl rfl)
theorem dX8_wish_62 : decode cX8_wish 62 = .ok (.invokevirtual 288, 3) := dk_182 1 32 (dk_at dksX8_wish_2 14 rfl rfl)
theorem dX8_wish_65 : decode cX8_wish 65 = .ok (.ifCond .eq 89, 3) := dk_153 0 89 (dk_at dksX8_wish_2 17 rfl rfl)
theorem dX8_wish_68 : decode cX8_wish 68 = .ok (.aload_n 0, 1) := dk_42 (dk_at dksX8_wish_2 20 rfl rfl)
theorem dX8_wish_69 : decode cX8_wish 69 = .ok (.getfield 9, 3) := dk_180 0 9 (dk_at dksX8_wish_2 21 rfl rfl)
theorem dX8_wish_72 : decode cX8_wish 72 = .ok (.iload 4, 2) := dk_21 4 (dk_at dksX8_wish_3 0 rfl rfl)
theorem dX8_wish_74 : decode cX8_wish 74 = .ok (.iconst 1, 1) := dk_4 (dk_at dksX8_wish_3 2 rfl rfl)
theorem dX8_wish_75 : decode cX8_wish 75 = .ok (.iadd, 1) := dk_96 (dk_at dksX8_wish_3 3 rfl rfl)
theorem dX8_wish_76 : decode cX8_wish 76 = .ok (.iaload, 1) := dk_46 (dk_at dksX8_wish_3 4 rfl rfl)
theorem dX8_wish_77 : decode cX8_wish 77 = .ok (.istore 7, 2) := dk_54 7 (dk_at dksX8_wish_3 5 rfl rfl)
theorem dX8_wish_79 : decode cX8_wish 79 = .ok (.aload_n 0, 1) := dk_42 (dk_at dksX8_wish_3 7 rfl rfl)
theorem dX8_wish_80 : decode cX8_wish 80 = .ok (.getfield 9, 3) := dk_180 0 9 (dk_at dksX8_wish_3 8 rfl rfl)
theorem dX8_wish_83 : decode cX8_wish 83 = .ok (.iload 4, 2) := dk_21 4 (dk_at dksX8_wish_3 11 rfl rfl)
theorem dX8_wish_85 : decode cX8_wish 85 = .ok (.iaload, 1) := dk_46 (dk_at dksX8_wish_3 13 rfl rfl)
theorem dX8_wish_86 : decode cX8_wish 86 = .ok (.tableswitch 66 0 4 #[34, 39, 44, 47, 58], 34) := by decide +kernel
theorem dX8_wish_120 : decode cX8_wish 120 = .ok (.iload_n 3, 1) := dk_29 (dk_at dksX8_wish_5 0 rfl rfl)
theorem dX8_wish_121 : decode cX8_wish 121 = .ok (.iload 7, 2) := dk_21 7 (dk_at dksX8_wish_5 1 rfl rfl)
theorem dX8_wish_123 : decode cX8_wish 123 = .ok (.iadd, 1) := dk_96 (dk_at dksX8_wish_5 3 rfl rfl)
theorem dX8_wish_124 : decode cX8_wish 124 = .ok (.ireturn, 1) := dk_172 (dk_at dksX8_wish_5 4 rfl rfl)
theorem dX8_wish_125 : decode cX8_wish 125 = .ok (.iload_n 3, 1) := dk_29 (dk_at dksX8_wish_5 5 rfl rfl)
theorem dX8_wish_126 : decode cX8_wish 126 = .ok (.iload 7, 2) := dk_21 7 (dk_at dksX8_wish_5 6 rfl rfl)
theorem dX8_wish_128 : decode cX8_wish 128 = .ok (.isub, 1) := dk_100 (dk_at dksX8_wish_5 8 rfl rfl)
theorem dX8_wish_129 : decode cX8_wish 129 = .ok (.ireturn, 1) := dk_172 (dk_at dksX8_wish_5 9 rfl rfl)
theorem dX8_wish_130 : decode cX8_wish 130 = .ok (.iload 7, 2) := dk_21 7 (dk_at dksX8_wish_5 10 rfl rfl)
theorem dX8_wish_132 : decode cX8_wish 132 = .ok (.ireturn, 1) := dk_172 (dk_at dksX8_wish_5 12 rfl rfl)
theorem dX8_wish_133 : decode cX8_wish 133 = .ok (.aload_n 0, 1) := dk_42 (dk_at dksX8_wish_5 13 rfl rfl)
theorem dX8_wish_134 : decode cX8_wish 134 = .ok (.iload_n 1, 1) := dk_27 (dk_at dksX8_wish_5 14 rfl rfl)
theorem dX8_wish_135 : decode cX8_wish 135 = .ok (.iload_n 2, 1) := dk_28 (dk_at dksX8_wish_5 15 rfl rfl)
theorem dX8_wish_136 : decode cX8_wish 136 = .ok (.iconst 0, 1) := dk_3 (dk_at dksX8_wish_5 16 rfl rfl)
theorem dX8_wish_137 : decode cX8_wish 137 = .ok (.invokevirtual 272, 3) := dk_182 1 16 (dk_at dksX8_wish_5 17 rfl rfl)
theorem dX8_wish_140 : decode cX8_wish 140 = .ok (.iload 7, 2) := dk_21 7 (dk_at dksX8_wish_5 20 rfl rfl)
theorem dX8_wish_142 : decode cX8_wish 142 = .ok (.isub, 1) := dk_100 (dk_at dksX8_wish_5 22 rfl rfl)
theorem dX8_wish_143 : decode cX8_wish 143 = .ok (.ireturn, 1) := dk_172 (dk_at dksX8_wish_5 23 rfl rfl)
theorem dX8_wish_144 : decode cX8_wish 144 = .ok (.aload_n 0, 1) := dk_42 (dk_at dksX8_wish_6 0 rfl rfl)
theorem dX8_wish_145 : decode cX8_wish 145 = .ok (.iload_n 1, 1) := dk_27 (dk_at dksX8_wish_6 1 rfl rfl)
theorem dX8_wish_146 : decode cX8_wish 146 = .ok (.iload_n 2, 1) := dk_28 (dk_at dksX8_wish_6 2 rfl rfl)
theorem dX8_wish_147 : decode cX8_wish 147 = .ok (.iconst 0, 1) := dk_3 (dk_at dksX8_wish_6 3 rfl rfl)
theorem dX8_wish_148 : decode cX8_wish 148 = .ok (.invokevirtual 272, 3) := dk_182 1 16 (dk_at dksX8_wish_6 4 rfl rfl)
theorem dX8_wish_151 : decode cX8_wish 151 = .ok (.ireturn, 1) := dk_172 (dk_at dksX8_wish_6 7 rfl rfl)
theorem dX8_wish_152 : decode cX8_wish 152 = .ok (.iload_n 3, 1) := dk_29 (dk_at dksX8_wish_6 8 rfl rfl)
theorem dX8_wish_153 : decode cX8_wish 153 = .ok (.ireturn, 1) := dk_172 (dk_at dksX8_wish_6 9 rfl rfl)
theorem dX8_wish_154 : decode cX8_wish 154 = .ok (.iload 4, 2) := dk_21 4 (dk_at dksX8_wish_6 10 rfl rfl)
theorem dX8_wish_156 : decode cX8_wish 156 = .ok (.iconst 3, 1) := dk_6 (dk_at dksX8_wish_6 12 rfl rfl)
theorem dX8_wish_157 : decode cX8_wish 157 = .ok (.iload 6, 2) := dk_21 6 (dk_at dksX8_wish_6 13 rfl rfl)
theorem dX8_wish_159 : decode cX8_wish 159 = .ok (.iadd, 1) := dk_96 (dk_at dksX8_wish_6 15 rfl rfl)
theorem dX8_wish_160 : decode cX8_wish 160 = .ok (.iadd, 1) := dk_96 (dk_at dksX8_wish_6 16 rfl rfl)
theorem dX8_wish_161 : decode cX8_wish 161 = .ok (.istore 4, 2) := dk_54 4 (dk_at dksX8_wish_6 17 rfl rfl)
theorem dX8_wish_163 : decode cX8_wish 163 = .ok (.iinc 5 1, 3) := dk_132 5 1 (dk_at dksX8_wish_6 19 rfl rfl)
theorem dX8_wish_166 : decode cX8_wish 166 = .ok (.goto (-142), 3) := dk_167 255 114 (dk_at dksX8_wish_7 0 rfl rfl)
theorem dX8_wish_169 : decode cX8_wish 169 = .ok (.iload_n 3, 1) := dk_29 (dk_at dksX8_wish_7 3 rfl rfl)
theorem dX8_wish_170 : decode cX8_wish 170 = .ok (.ireturn, 1) := dk_172 (dk_at dksX8_wish_7 4 rfl rfl)
abbrev cX8_isSo : ByteArray := prog_29_method_42_code
def yX8_isSo : MethodName := ⟨RX8, "isSo", "(IIII)Z"⟩
def dkwX8_isSo_6 : List UInt8 := [3, 172]
abbrev dktX8_isSo_6 : List UInt8 := dkwX8_isSo_6 ++ []
def dkwX8_isSo_5 : List UInt8 := [132, 6, 1, 167, 255, 144, 28, 153, 0, 13, 42, 180, 0, 40, 3, 46, 4, 160, 0, 7, 4, 167, 0, 4]
abbrev dktX8_isSo_5 : List UInt8 := dkwX8_isSo_5 ++ dktX8_isSo_6
def dkwX8_isSo_4 : List UInt8 := [21, 7, 42, 180, 0, 40, 21, 5, 4, 100, 46, 42, 180, 0, 40, 21, 5, 46, 184, 1, 29, 79]
abbrev dktX8_isSo_4 : List UInt8 := dkwX8_isSo_4 ++ dktX8_isSo_5
def dkwX8_isSo_3 : List UInt8 := [21, 4, 182, 1, 25, 79, 132, 5, 1, 167, 0, 36, 132, 5, 255, 42, 180, 0, 40, 21, 5, 4, 100]
abbrev dktX8_isSo_3 : List UInt8 := dkwX8_isSo_3 ++ dktX8_isSo_4
def dkwX8_isSo_2 : List UInt8 := [46, 100, 79, 167, 0, 65, 21, 7, 16, 110, 162, 0, 25, 42, 180, 0, 40, 21, 5, 42, 21, 7, 29]
abbrev dktX8_isSo_2 : List UInt8 := dkwX8_isSo_2 ++ dktX8_isSo_3
def dkwX8_isSo_1 : List UInt8 := [21, 7, 16, 115, 160, 0, 26, 42, 180, 0, 40, 21, 5, 4, 100, 4, 42, 180, 0, 40, 21, 5, 4, 100]
abbrev dktX8_isSo_1 : List UInt8 := dkwX8_isSo_1 ++ dktX8_isSo_2
def dkwX8_isSo_0 : List UInt8 := [3, 54, 5, 27, 54, 6, 21, 6, 27, 28, 96, 162, 0, 110, 42, 180, 0, 9, 21, 6, 46, 54, 7]
abbrev dktX8_isSo_0 : List UInt8 := dkwX8_isSo_0 ++ dktX8_isSo_1
theorem dksX8_isSo_0 : cX8_isSo.data.toList.drop 0 = dktX8_isSo_0 := by decide +kernel
theorem dksX8_isSo_1 : cX8_isSo.data.toList.drop 23 = dktX8_isSo_1 := dk_seg dksX8_isSo_0 23 rfl rfl
theorem dksX8_isSo_2 : cX8_isSo.data.toList.drop 47 = dktX8_isSo_2 := dk_seg dksX8_isSo_1 24 rfl rfl
theorem dksX8_isSo_3 : cX8_isSo.data.toList.drop 70 = dktX8_isSo_3 := dk_seg dksX8_isSo_2 23 rfl rfl
theorem dksX8_isSo_4 : cX8_isSo.data.toList.drop 93 = dktX8_isSo_4 := dk_seg dksX8_isSo_3 23 rfl rfl
theorem dksX8_isSo_5 : cX8_isSo.data.toList.drop 115 = dktX8_isSo_5 := dk_seg dksX8_isSo_4 22 rfl rfl
theorem dksX8_isSo_6 : cX8_isSo.data.toList.drop 139 = dktX8_isSo_6 := dk_seg dksX8_isSo_5 24 rfl rfl
theorem dX8_isSo_0 : decode cX8_isSo 0 = .ok (.iconst 0, 1) := dk_3 (dk_at dksX8_isSo_0 0 rfl rfl)
theorem dX8_isSo_1 : decode cX8_isSo 1 = .ok (.istore 5, 2) := dk_54 5 (dk_at dksX8_isSo_0 1 rfl rfl)
theorem dX8_isSo_3 : decode cX8_isSo 3 = .ok (.iload_n 1, 1) := dk_27 (dk_at dksX8_isSo_0 3 rfl rfl)
theorem dX8_isSo_4 : decode cX8_isSo 4 = .ok (.istore 6, 2) := dk_54 6 (dk_at dksX8_isSo_0 4 rfl rfl)
theorem dX8_isSo_6 : decode cX8_isSo 6 = .ok (.iload 6, 2) := dk_21 6 (dk_at dksX8_isSo_0 6 rfl rfl)
theorem dX8_isSo_8 : decode cX8_isSo 8 = .ok (.iload_n 1, 1) := dk_27 (dk_at dksX8_isSo_0 8 rfl rfl)
theorem dX8_isSo_9 : decode cX8_isSo 9 = .ok (.iload_n 2, 1) := dk_28 (dk_at dksX8_isSo_0 9 rfl rfl)
theorem dX8_isSo_10 : decode cX8_isSo 10 = .ok (.iadd, 1) := dk_96 (dk_at dksX8_isSo_0 10 rfl rfl)
theorem dX8_isSo_11 : decode cX8_isSo 11 = .ok (.if_icmp .ge 110, 3) := dk_162 0 110 (dk_at dksX8_isSo_0 11 rfl rfl)
theorem dX8_isSo_14 : decode cX8_isSo 14 = .ok (.aload_n 0, 1) := dk_42 (dk_at dksX8_isSo_0 14 rfl rfl)
theorem dX8_isSo_15 : decode cX8_isSo 15 = .ok (.getfield 9, 3) := dk_180 0 9 (dk_at dksX8_isSo_0 15 rfl rfl)
theorem dX8_isSo_18 : decode cX8_isSo 18 = .ok (.iload 6, 2) := dk_21 6 (dk_at dksX8_isSo_0 18 rfl rfl)
theorem dX8_isSo_20 : decode cX8_isSo 20 = .ok (.iaload, 1) := dk_46 (dk_at dksX8_isSo_0 20 rfl rfl)
theorem dX8_isSo_21 : decode cX8_isSo 21 = .ok (.istore 7, 2) := dk_54 7 (dk_at dksX8_isSo_0 21 rfl rfl)
theorem dX8_isSo_23 : decode cX8_isSo 23 = .ok (.iload 7, 2) := dk_21 7 (dk_at dksX8_isSo_1 0 rfl rfl)
theorem dX8_isSo_25 : decode cX8_isSo 25 = .ok (.bipush 115, 2) := dk_16 115 (dk_at dksX8_isSo_1 2 rfl rfl)
theorem dX8_isSo_27 : decode cX8_isSo 27 = .ok (.if_icmp .ne 26, 3) := dk_160 0 26 (dk_at dksX8_isSo_1 4 rfl rfl)
theorem dX8_isSo_30 : decode cX8_isSo 30 = .ok (.aload_n 0, 1) := dk_42 (dk_at dksX8_isSo_1 7 rfl rfl)
theorem dX8_isSo_31 : decode cX8_isSo 31 = .ok (.getfield 40, 3) := dk_180 0 40 (dk_at dksX8_isSo_1 8 rfl rfl)
theorem dX8_isSo_34 : decode cX8_isSo 34 = .ok (.iload 5, 2) := dk_21 5 (dk_at dksX8_isSo_1 11 rfl rfl)
theorem dX8_isSo_36 : decode cX8_isSo 36 = .ok (.iconst 1, 1) := dk_4 (dk_at dksX8_isSo_1 13 rfl rfl)
theorem dX8_isSo_37 : decode cX8_isSo 37 = .ok (.isub, 1) := dk_100 (dk_at dksX8_isSo_1 14 rfl rfl)
theorem dX8_isSo_38 : decode cX8_isSo 38 = .ok (.iconst 1, 1) := dk_4 (dk_at dksX8_isSo_1 15 rfl rfl)
theorem dX8_isSo_39 : decode cX8_isSo 39 = .ok (.aload_n 0, 1) := dk_42 (dk_at dksX8_isSo_1 16 rfl rfl)
theorem dX8_isSo_40 : decode cX8_isSo 40 = .ok (.getfield 40, 3) := dk_180 0 40 (dk_at dksX8_isSo_1 17 rfl rfl)
theorem dX8_isSo_43 : decode cX8_isSo 43 = .ok (.iload 5, 2) := dk_21 5 (dk_at dksX8_isSo_1 20 rfl rfl)
theorem dX8_isSo_45 : decode cX8_isSo 45 = .ok (.iconst 1, 1) := dk_4 (dk_at dksX8_isSo_1 22 rfl rfl)
theorem dX8_isSo_46 : decode cX8_isSo 46 = .ok (.isub, 1) := dk_100 (dk_at dksX8_isSo_1 23 rfl rfl)
theorem dX8_isSo_47 : decode cX8_isSo 47 = .ok (.iaload, 1) := dk_46 (dk_at dksX8_isSo_2 0 rfl rfl)
theorem dX8_isSo_48 : decode cX8_isSo 48 = .ok (.isub, 1) := dk_100 (dk_at dksX8_isSo_2 1 rfl rfl)
theorem dX8_isSo_49 : decode cX8_isSo 49 = .ok (.iastore, 1) := dk_79 (dk_at dksX8_isSo_2 2 rfl rfl)
theorem dX8_isSo_50 : decode cX8_isSo 50 = .ok (.goto 65, 3) := dk_167 0 65 (dk_at dksX8_isSo_2 3 rfl rfl)
theorem dX8_isSo_53 : decode cX8_isSo 53 = .ok (.iload 7, 2) := dk_21 7 (dk_at dksX8_isSo_2 6 rfl rfl)
theorem dX8_isSo_55 : decode cX8_isSo 55 = .ok (.bipush 110, 2) := dk_16 110 (dk_at dksX8_isSo_2 8 rfl rfl)
theorem dX8_isSo_57 : decode cX8_isSo 57 = .ok (.if_icmp .ge 25, 3) := dk_162 0 25 (dk_at dksX8_isSo_2 10 rfl rfl)
theorem dX8_isSo_60 : decode cX8_isSo 60 = .ok (.aload_n 0, 1) := dk_42 (dk_at dksX8_isSo_2 13 rfl rfl)
theorem dX8_isSo_61 : decode cX8_isSo 61 = .ok (.getfield 40, 3) := dk_180 0 40 (dk_at dksX8_isSo_2 14 rfl rfl)
theorem dX8_isSo_64 : decode cX8_isSo 64 = .ok (.iload 5, 2) := dk_21 5 (dk_at dksX8_isSo_2 17 rfl rfl)
theorem dX8_isSo_66 : decode cX8_isSo 66 = .ok (.aload_n 0, 1) := dk_42 (dk_at dksX8_isSo_2 19 rfl rfl)
theorem dX8_isSo_67 : decode cX8_isSo 67 = .ok (.iload 7, 2) := dk_21 7 (dk_at dksX8_isSo_2 20 rfl rfl)
theorem dX8_isSo_69 : decode cX8_isSo 69 = .ok (.iload_n 3, 1) := dk_29 (dk_at dksX8_isSo_2 22 rfl rfl)
theorem dX8_isSo_70 : decode cX8_isSo 70 = .ok (.iload 4, 2) := dk_21 4 (dk_at dksX8_isSo_3 0 rfl rfl)
theorem dX8_isSo_72 : decode cX8_isSo 72 = .ok (.invokevirtual 281, 3) := dk_182 1 25 (dk_at dksX8_isSo_3 2 rfl rfl)
theorem dX8_isSo_75 : decode cX8_isSo 75 = .ok (.iastore, 1) := dk_79 (dk_at dksX8_isSo_3 5 rfl rfl)
theorem dX8_isSo_76 : decode cX8_isSo 76 = .ok (.iinc 5 1, 3) := dk_132 5 1 (dk_at dksX8_isSo_3 6 rfl rfl)
theorem dX8_isSo_79 : decode cX8_isSo 79 = .ok (.goto 36, 3) := dk_167 0 36 (dk_at dksX8_isSo_3 9 rfl rfl)
theorem dX8_isSo_82 : decode cX8_isSo 82 = .ok (.iinc 5 (-1), 3) := dk_132 5 255 (dk_at dksX8_isSo_3 12 rfl rfl)
theorem dX8_isSo_85 : decode cX8_isSo 85 = .ok (.aload_n 0, 1) := dk_42 (dk_at dksX8_isSo_3 15 rfl rfl)
theorem dX8_isSo_86 : decode cX8_isSo 86 = .ok (.getfield 40, 3) := dk_180 0 40 (dk_at dksX8_isSo_3 16 rfl rfl)
theorem dX8_isSo_89 : decode cX8_isSo 89 = .ok (.iload 5, 2) := dk_21 5 (dk_at dksX8_isSo_3 19 rfl rfl)
theorem dX8_isSo_91 : decode cX8_isSo 91 = .ok (.iconst 1, 1) := dk_4 (dk_at dksX8_isSo_3 21 rfl rfl)
theorem dX8_isSo_92 : decode cX8_isSo 92 = .ok (.isub, 1) := dk_100 (dk_at dksX8_isSo_3 22 rfl rfl)
theorem dX8_isSo_93 : decode cX8_isSo 93 = .ok (.iload 7, 2) := dk_21 7 (dk_at dksX8_isSo_4 0 rfl rfl)
theorem dX8_isSo_95 : decode cX8_isSo 95 = .ok (.aload_n 0, 1) := dk_42 (dk_at dksX8_isSo_4 2 rfl rfl)
theorem dX8_isSo_96 : decode cX8_isSo 96 = .ok (.getfield 40, 3) := dk_180 0 40 (dk_at dksX8_isSo_4 3 rfl rfl)
theorem dX8_isSo_99 : decode cX8_isSo 99 = .ok (.iload 5, 2) := dk_21 5 (dk_at dksX8_isSo_4 6 rfl rfl)
theorem dX8_isSo_101 : decode cX8_isSo 101 = .ok (.iconst 1, 1) := dk_4 (dk_at dksX8_isSo_4 8 rfl rfl)
theorem dX8_isSo_102 : decode cX8_isSo 102 = .ok (.isub, 1) := dk_100 (dk_at dksX8_isSo_4 9 rfl rfl)
theorem dX8_isSo_103 : decode cX8_isSo 103 = .ok (.iaload, 1) := dk_46 (dk_at dksX8_isSo_4 10 rfl rfl)
theorem dX8_isSo_104 : decode cX8_isSo 104 = .ok (.aload_n 0, 1) := dk_42 (dk_at dksX8_isSo_4 11 rfl rfl)
theorem dX8_isSo_105 : decode cX8_isSo 105 = .ok (.getfield 40, 3) := dk_180 0 40 (dk_at dksX8_isSo_4 12 rfl rfl)
theorem dX8_isSo_108 : decode cX8_isSo 108 = .ok (.iload 5, 2) := dk_21 5 (dk_at dksX8_isSo_4 15 rfl rfl)
theorem dX8_isSo_110 : decode cX8_isSo 110 = .ok (.iaload, 1) := dk_46 (dk_at dksX8_isSo_4 17 rfl rfl)
theorem dX8_isSo_111 : decode cX8_isSo 111 = .ok (.invokestatic 285, 3) := dk_184 1 29 (dk_at dksX8_isSo_4 18 rfl rfl)
theorem dX8_isSo_114 : decode cX8_isSo 114 = .ok (.iastore, 1) := dk_79 (dk_at dksX8_isSo_4 21 rfl rfl)
theorem dX8_isSo_115 : decode cX8_isSo 115 = .ok (.iinc 6 1, 3) := dk_132 6 1 (dk_at dksX8_isSo_5 0 rfl rfl)
theorem dX8_isSo_118 : decode cX8_isSo 118 = .ok (.goto (-112), 3) := dk_167 255 144 (dk_at dksX8_isSo_5 3 rfl rfl)
theorem dX8_isSo_121 : decode cX8_isSo 121 = .ok (.iload_n 2, 1) := dk_28 (dk_at dksX8_isSo_5 6 rfl rfl)
theorem dX8_isSo_122 : decode cX8_isSo 122 = .ok (.ifCond .eq 13, 3) := dk_153 0 13 (dk_at dksX8_isSo_5 7 rfl rfl)
theorem dX8_isSo_125 : decode cX8_isSo 125 = .ok (.aload_n 0, 1) := dk_42 (dk_at dksX8_isSo_5 10 rfl rfl)
theorem dX8_isSo_126 : decode cX8_isSo 126 = .ok (.getfield 40, 3) := dk_180 0 40 (dk_at dksX8_isSo_5 11 rfl rfl)
theorem dX8_isSo_129 : decode cX8_isSo 129 = .ok (.iconst 0, 1) := dk_3 (dk_at dksX8_isSo_5 14 rfl rfl)
theorem dX8_isSo_130 : decode cX8_isSo 130 = .ok (.iaload, 1) := dk_46 (dk_at dksX8_isSo_5 15 rfl rfl)
theorem dX8_isSo_131 : decode cX8_isSo 131 = .ok (.iconst 1, 1) := dk_4 (dk_at dksX8_isSo_5 16 rfl rfl)
theorem dX8_isSo_132 : decode cX8_isSo 132 = .ok (.if_icmp .ne 7, 3) := dk_160 0 7 (dk_at dksX8_isSo_5 17 rfl rfl)
theorem dX8_isSo_135 : decode cX8_isSo 135 = .ok (.iconst 1, 1) := dk_4 (dk_at dksX8_isSo_5 20 rfl rfl)
theorem dX8_isSo_136 : decode cX8_isSo 136 = .ok (.goto 4, 3) := dk_167 0 4 (dk_at dksX8_isSo_5 21 rfl rfl)
theorem dX8_isSo_139 : decode cX8_isSo 139 = .ok (.iconst 0, 1) := dk_3 (dk_at dksX8_isSo_6 0 rfl rfl)
theorem dX8_isSo_140 : decode cX8_isSo 140 = .ok (.ireturn, 1) := dk_172 (dk_at dksX8_isSo_6 1 rfl rfl)
abbrev cX8_worth : ByteArray := prog_29_method_40_code
def yX8_worth : MethodName := ⟨RX8, "worth", "(III)I"⟩
def dkwX8_worth_5 : List UInt8 := [172]
abbrev dktX8_worth_5 : List UInt8 := dkwX8_worth_5 ++ []
def dkwX8_worth_4 : List UInt8 := [42, 28, 29, 182, 1, 19, 172, 42, 28, 29, 4, 182, 1, 22, 172, 42, 28, 29, 3, 182, 1, 22, 172, 27]
abbrev dktX8_worth_4 : List UInt8 := dkwX8_worth_4 ++ dktX8_worth_5
def dkwX8_worth_3 : List UInt8 := [172, 42, 180, 0, 9, 16, 8, 28, 96, 46, 172, 29, 16, 24, 112, 172, 29, 16, 24, 108, 16, 7, 112, 172]
abbrev dktX8_worth_3 : List UInt8 := dkwX8_worth_3 ++ dktX8_worth_4
def dkwX8_worth_2 : List UInt8 := [42, 28, 29, 4, 100, 182, 1, 10, 172, 42, 28, 29, 3, 182, 1, 16, 172, 42, 28, 29, 4, 182, 1, 16]
abbrev dktX8_worth_2 : List UInt8 := dkwX8_worth_2 ++ dktX8_worth_3
def dkwX8_worth_1 : List UInt8 := [170, 0, 0, 0, 0, 0, 122, 0, 0, 0, 100, 0, 0, 0, 108, 0, 0, 0, 51, 0, 0, 0, 60, 0, 0, 0, 68, 0, 0, 0, 76, 0, 0, 0, 86, 0, 0, 0, 91, 0, 0, 0, 99, 0, 0, 0, 106, 0, 0, 0, 114]
abbrev dktX8_worth_1 : List UInt8 := dkwX8_worth_1 ++ dktX8_worth_2
def dkwX8_worth_0 : List UInt8 := [27]
abbrev dktX8_worth_0 : List UInt8 := dkwX8_worth_0 ++ dktX8_worth_1
theorem dksX8_worth_0 : cX8_worth.data.toList.drop 0 = dktX8_worth_0 := by decide +kernel
theorem dksX8_worth_1 : cX8_worth.data.toList.drop 1 = dktX8_worth_1 := dk_seg dksX8_worth_0 1 rfl rfl
theorem dksX8_worth_2 : cX8_worth.data.toList.drop 52 = dktX8_worth_2 := dk_seg dksX8_worth_1 51 rfl rfl
theorem dksX8_worth_3 : cX8_worth.data.toList.drop 76 = dktX8_worth_3 := dk_seg dksX8_worth_2 24 rfl rfl
theorem dksX8_worth_4 : cX8_worth.data.toList.drop 100 = dktX8_worth_4 := dk_seg dksX8_worth_3 24 rfl rfl
theorem dksX8_worth_5 : cX8_worth.data.toList.drop 124 = dktX8_worth_5 := dk_seg dksX8_worth_4 24 rfl rfl
theorem dX8_worth_0 : decode cX8_worth 0 = .ok (.iload_n 1, 1) := dk_27 (dk_at dksX8_worth_0 0 rfl rfl)
theorem dX8_worth_1 : decode cX8_worth 1 = .ok (.tableswitch 122 100 108 #[51, 60, 68, 76, 86, 91, 99, 106, 114], 51) := by decide +kernel
theorem dX8_worth_52 : decode cX8_worth 52 = .ok (.aload_n 0, 1) := dk_42 (dk_at dksX8_worth_2 0 rfl rfl)
theorem dX8_worth_53 : decode cX8_worth 53 = .ok (.iload_n 2, 1) := dk_28 (dk_at dksX8_worth_2 1 rfl rfl)
theorem dX8_worth_54 : decode cX8_worth 54 = .ok (.iload_n 3, 1) := dk_29 (dk_at dksX8_worth_2 2 rfl rfl)
theorem dX8_worth_55 : decode cX8_worth 55 = .ok (.iconst 1, 1) := dk_4 (dk_at dksX8_worth_2 3 rfl rfl)
theorem dX8_worth_56 : decode cX8_worth 56 = .ok (.isub, 1) := dk_100 (dk_at dksX8_worth_2 4 rfl rfl)
theorem dX8_worth_57 : decode cX8_worth 57 = .ok (.invokevirtual 266, 3) := dk_182 1 10 (dk_at dksX8_worth_2 5 rfl rfl)
theorem dX8_worth_60 : decode cX8_worth 60 = .ok (.ireturn, 1) := dk_172 (dk_at dksX8_worth_2 8 rfl rfl)
theorem dX8_worth_61 : decode cX8_worth 61 = .ok (.aload_n 0, 1) := dk_42 (dk_at dksX8_worth_2 9 rfl rfl)
theorem dX8_worth_62 : decode cX8_worth 62 = .ok (.iload_n 2, 1) := dk_28 (dk_at dksX8_worth_2 10 rfl rfl)
theorem dX8_worth_63 : decode cX8_worth 63 = .ok (.iload_n 3, 1) := dk_29 (dk_at dksX8_worth_2 11 rfl rfl)
theorem dX8_worth_64 : decode cX8_worth 64 = .ok (.iconst 0, 1) := dk_3 (dk_at dksX8_worth_2 12 rfl rfl)
theorem dX8_worth_65 : decode cX8_worth 65 = .ok (.invokevirtual 272, 3) := dk_182 1 16 (dk_at dksX8_worth_2 13 rfl rfl)
theorem dX8_worth_68 : decode cX8_worth 68 = .ok (.ireturn, 1) := dk_172 (dk_at dksX8_worth_2 16 rfl rfl)
theorem dX8_worth_69 : decode cX8_worth 69 = .ok (.aload_n 0, 1) := dk_42 (dk_at dksX8_worth_2 17 rfl rfl)
theorem dX8_worth_70 : decode cX8_worth 70 = .ok (.iload_n 2, 1) := dk_28 (dk_at dksX8_worth_2 18 rfl rfl)
theorem dX8_worth_71 : decode cX8_worth 71 = .ok (.iload_n 3, 1) := dk_29 (dk_at dksX8_worth_2 19 rfl rfl)
theorem dX8_worth_72 : decode cX8_worth 72 = .ok (.iconst 1, 1) := dk_4 (dk_at dksX8_worth_2 20 rfl rfl)
theorem dX8_worth_73 : decode cX8_worth 73 = .ok (.invokevirtual 272, 3) := dk_182 1 16 (dk_at dksX8_worth_2 21 rfl rfl)
theorem dX8_worth_76 : decode cX8_worth 76 = .ok (.ireturn, 1) := dk_172 (dk_at dksX8_worth_3 0 rfl rfl)
theorem dX8_worth_77 : decode cX8_worth 77 = .ok (.aload_n 0, 1) := dk_42 (dk_at dksX8_worth_3 1 rfl rfl)
theorem dX8_worth_78 : decode cX8_worth 78 = .ok (.getfield 9, 3) := dk_180 0 9 (dk_at dksX8_worth_3 2 rfl rfl)
theorem dX8_worth_81 : decode cX8_worth 81 = .ok (.bipush 8, 2) := dk_16 8 (dk_at dksX8_worth_3 5 rfl rfl)
theorem dX8_worth_83 : decode cX8_worth 83 = .ok (.iload_n 2, 1) := dk_28 (dk_at dksX8_worth_3 7 rfl rfl)
theorem dX8_worth_84 : decode cX8_worth 84 = .ok (.iadd, 1) := dk_96 (dk_at dksX8_worth_3 8 rfl rfl)
theorem dX8_worth_85 : decode cX8_worth 85 = .ok (.iaload, 1) := dk_46 (dk_at dksX8_worth_3 9 rfl rfl)
theorem dX8_worth_86 : decode cX8_worth 86 = .ok (.ireturn, 1) := dk_172 (dk_at dksX8_worth_3 10 rfl rfl)
theorem dX8_worth_87 : decode cX8_worth 87 = .ok (.iload_n 3, 1) := dk_29 (dk_at dksX8_worth_3 11 rfl rfl)
theorem dX8_worth_88 : decode cX8_worth 88 = .ok (.bipush 24, 2) := dk_16 24 (dk_at dksX8_worth_3 12 rfl rfl)
theorem dX8_worth_90 : decode cX8_worth 90 = .ok (.irem, 1) := dk_112 (dk_at dksX8_worth_3 14 rfl rfl)
theorem dX8_worth_91 : decode cX8_worth 91 = .ok (.ireturn, 1) := dk_172 (dk_at dksX8_worth_3 15 rfl rfl)
theorem dX8_worth_92 : decode cX8_worth 92 = .ok (.iload_n 3, 1) := dk_29 (dk_at dksX8_worth_3 16 rfl rfl)
theorem dX8_worth_93 : decode cX8_worth 93 = .ok (.bipush 24, 2) := dk_16 24 (dk_at dksX8_worth_3 17 rfl rfl)
theorem dX8_worth_95 : decode cX8_worth 95 = .ok (.idiv, 1) := dk_108 (dk_at dksX8_worth_3 19 rfl rfl)
theorem dX8_worth_96 : decode cX8_worth 96 = .ok (.bipush 7, 2) := dk_16 7 (dk_at dksX8_worth_3 20 rfl rfl)
theorem dX8_worth_98 : decode cX8_worth 98 = .ok (.irem, 1) := dk_112 (dk_at dksX8_worth_3 22 rfl rfl)
theorem dX8_worth_99 : decode cX8_worth 99 = .ok (.ireturn, 1) := dk_172 (dk_at dksX8_worth_3 23 rfl rfl)
theorem dX8_worth_100 : decode cX8_worth 100 = .ok (.aload_n 0, 1) := dk_42 (dk_at dksX8_worth_4 0 rfl rfl)
theorem dX8_worth_101 : decode cX8_worth 101 = .ok (.iload_n 2, 1) := dk_28 (dk_at dksX8_worth_4 1 rfl rfl)
theorem dX8_worth_102 : decode cX8_worth 102 = .ok (.iload_n 3, 1) := dk_29 (dk_at dksX8_worth_4 2 rfl rfl)
theorem dX8_worth_103 : decode cX8_worth 103 = .ok (.invokevirtual 275, 3) := dk_182 1 19 (dk_at dksX8_worth_4 3 rfl rfl)
theorem dX8_worth_106 : decode cX8_worth 106 = .ok (.ireturn, 1) := dk_172 (dk_at dksX8_worth_4 6 rfl rfl)
theorem dX8_worth_107 : decode cX8_worth 107 = .ok (.aload_n 0, 1) := dk_42 (dk_at dksX8_worth_4 7 rfl rfl)
theorem dX8_worth_108 : decode cX8_worth 108 = .ok (.iload_n 2, 1) := dk_28 (dk_at dksX8_worth_4 8 rfl rfl)
theorem dX8_worth_109 : decode cX8_worth 109 = .ok (.iload_n 3, 1) := dk_29 (dk_at dksX8_worth_4 9 rfl rfl)
theorem dX8_worth_110 : decode cX8_worth 110 = .ok (.iconst 1, 1) := dk_4 (dk_at dksX8_worth_4 10 rfl rfl)
theorem dX8_worth_111 : decode cX8_worth 111 = .ok (.invokevirtual 278, 3) := dk_182 1 22 (dk_at dksX8_worth_4 11 rfl rfl)
theorem dX8_worth_114 : decode cX8_worth 114 = .ok (.ireturn, 1) := dk_172 (dk_at dksX8_worth_4 14 rfl rfl)
theorem dX8_worth_115 : decode cX8_worth 115 = .ok (.aload_n 0, 1) := dk_42 (dk_at dksX8_worth_4 15 rfl rfl)
theorem dX8_worth_116 : decode cX8_worth 116 = .ok (.iload_n 2, 1) := dk_28 (dk_at dksX8_worth_4 16 rfl rfl)
theorem dX8_worth_117 : decode cX8_worth 117 = .ok (.iload_n 3, 1) := dk_29 (dk_at dksX8_worth_4 17 rfl rfl)
theorem dX8_worth_118 : decode cX8_worth 118 = .ok (.iconst 0, 1) := dk_3 (dk_at dksX8_worth_4 18 rfl rfl)
theorem dX8_worth_119 : decode cX8_worth 119 = .ok (.invokevirtual 278, 3) := dk_182 1 22 (dk_at dksX8_worth_4 19 rfl rfl)
theorem dX8_worth_122 : decode cX8_worth 122 = .ok (.ireturn, 1) := dk_172 (dk_at dksX8_worth_4 22 rfl rfl)
theorem dX8_worth_123 : decode cX8_worth 123 = .ok (.iload_n 1, 1) := dk_27 (dk_at dksX8_worth_4 23 rfl rfl)
theorem dX8_worth_124 : decode cX8_worth 124 = .ok (.ireturn, 1) := dk_172 (dk_at dksX8_worth_5 0 rfl rfl)
abbrev cX8_least : ByteArray := prog_29_method_38_code
def yX8_least : MethodName := ⟨RX8, "least", "(IIZ)I"⟩
def dkwX8_least_4 : List UInt8 := [182, 1, 10, 167, 0, 5, 21, 4, 172]
abbrev dktX8_least_4 : List UInt8 := dkwX8_least_4 ++ []
def dkwX8_least_3 : List UInt8 := [162, 0, 7, 21, 6, 54, 4, 132, 5, 1, 167, 255, 181, 21, 4, 2, 160, 0, 14, 42, 27, 28, 4, 100]
abbrev dktX8_least_3 : List UInt8 := dkwX8_least_3 ++ dktX8_least_4
def dkwX8_least_2 : List UInt8 := [21, 4, 2, 159, 0, 24, 29, 153, 0, 13, 21, 6, 21, 4, 164, 0, 17, 167, 0, 10, 21, 6, 21, 4]
abbrev dktX8_least_2 : List UInt8 := dkwX8_least_2 ++ dktX8_least_3
def dkwX8_least_1 : List UInt8 := [167, 0, 55, 42, 21, 5, 28, 4, 100, 42, 180, 0, 9, 16, 16, 27, 96, 46, 100, 182, 1, 10, 54, 6]
abbrev dktX8_least_1 : List UInt8 := dkwX8_least_1 ++ dktX8_least_2
def dkwX8_least_0 : List UInt8 := [2, 54, 4, 3, 54, 5, 21, 5, 42, 180, 0, 9, 3, 46, 162, 0, 70, 21, 5, 27, 160, 0, 6]
abbrev dktX8_least_0 : List UInt8 := dkwX8_least_0 ++ dktX8_least_1
theorem dksX8_least_0 : cX8_least.data.toList.drop 0 = dktX8_least_0 := by decide +kernel
theorem dksX8_least_1 : cX8_least.data.toList.drop 23 = dktX8_least_1 := dk_seg dksX8_least_0 23 rfl rfl
theorem dksX8_least_2 : cX8_least.data.toList.drop 47 = dktX8_least_2 := dk_seg dksX8_least_1 24 rfl rfl
theorem dksX8_least_3 : cX8_least.data.toList.drop 71 = dktX8_least_3 := dk_seg dksX8_least_2 24 rfl rfl
theorem dksX8_least_4 : cX8_least.data.toList.drop 95 = dktX8_least_4 := dk_seg dksX8_least_3 24 rfl rfl
theorem dX8_least_0 : decode cX8_least 0 = .ok (.iconst (-1), 1) := dk_2 (dk_at dksX8_least_0 0 rfl rfl)
theorem dX8_least_1 : decode cX8_least 1 = .ok (.istore 4, 2) := dk_54 4 (dk_at dksX8_least_0 1 rfl rfl)
theorem dX8_least_3 : decode cX8_least 3 = .ok (.iconst 0, 1) := dk_3 (dk_at dksX8_least_0 3 rfl rfl)
theorem dX8_least_4 : decode cX8_least 4 = .ok (.istore 5, 2) := dk_54 5 (dk_at dksX8_least_0 4 rfl rfl)
theorem dX8_least_6 : decode cX8_least 6 = .ok (.iload 5, 2) := dk_21 5 (dk_at dksX8_least_0 6 rfl rfl)
theorem dX8_least_8 : decode cX8_least 8 = .ok (.aload_n 0, 1) := dk_42 (dk_at dksX8_least_0 8 rfl rfl)
theorem dX8_least_9 : decode cX8_least 9 = .ok (.getfield 9, 3) := dk_180 0 9 (dk_at dksX8_least_0 9 rfl rfl)
theorem dX8_least_12 : decode cX8_least 12 = .ok (.iconst 0, 1) := dk_3 (dk_at dksX8_least_0 12 rfl rfl)
theorem dX8_least_13 : decode cX8_least 13 = .ok (.iaload, 1) := dk_46 (dk_at dksX8_least_0 13 rfl rfl)
theorem dX8_least_14 : decode cX8_least 14 = .ok (.if_icmp .ge 70, 3) := dk_162 0 70 (dk_at dksX8_least_0 14 rfl rfl)
theorem dX8_least_17 : decode cX8_least 17 = .ok (.iload 5, 2) := dk_21 5 (dk_at dksX8_least_0 17 rfl rfl)
theorem dX8_least_19 : decode cX8_least 19 = .ok (.iload_n 1, 1) := dk_27 (dk_at dksX8_least_0 19 rfl rfl)
theorem dX8_least_20 : decode cX8_least 20 = .ok (.if_icmp .ne 6, 3) := dk_160 0 6 (dk_at dksX8_least_0 20 rfl rfl)
theorem dX8_least_23 : decode cX8_least 23 = .ok (.goto 55, 3) := dk_167 0 55 (dk_at dksX8_least_1 0 rfl rfl)
theorem dX8_least_26 : decode cX8_least 26 = .ok (.aload_n 0, 1) := dk_42 (dk_at dksX8_least_1 3 rfl rfl)
theorem dX8_least_27 : decode cX8_least 27 = .ok (.iload 5, 2) := dk_21 5 (dk_at dksX8_least_1 4 rfl rfl)
theorem dX8_least_29 : decode cX8_least 29 = .ok (.iload_n 2, 1) := dk_28 (dk_at dksX8_least_1 6 rfl rfl)
theorem dX8_least_30 : decode cX8_least 30 = .ok (.iconst 1, 1) := dk_4 (dk_at dksX8_least_1 7 rfl rfl)
theorem dX8_least_31 : decode cX8_least 31 = .ok (.isub, 1) := dk_100 (dk_at dksX8_least_1 8 rfl rfl)
theorem dX8_least_32 : decode cX8_least 32 = .ok (.aload_n 0, 1) := dk_42 (dk_at dksX8_least_1 9 rfl rfl)
theorem dX8_least_33 : decode cX8_least 33 = .ok (.getfield 9, 3) := dk_180 0 9 (dk_at dksX8_least_1 10 rfl rfl)
theorem dX8_least_36 : decode cX8_least 36 = .ok (.bipush 16, 2) := dk_16 16 (dk_at dksX8_least_1 13 rfl rfl)
theorem dX8_least_38 : decode cX8_least 38 = .ok (.iload_n 1, 1) := dk_27 (dk_at dksX8_least_1 15 rfl rfl)
theorem dX8_least_39 : decode cX8_least 39 = .ok (.iadd, 1) := dk_96 (dk_at dksX8_least_1 16 rfl rfl)
theorem dX8_least_40 : decode cX8_least 40 = .ok (.iaload, 1) := dk_46 (dk_at dksX8_least_1 17 rfl rfl)
theorem dX8_least_41 : decode cX8_least 41 = .ok (.isub, 1) := dk_100 (dk_at dksX8_least_1 18 rfl rfl)
theorem dX8_least_42 : decode cX8_least 42 = .ok (.invokevirtual 266, 3) := dk_182 1 10 (dk_at dksX8_least_1 19 rfl rfl)
theorem dX8_least_45 : decode cX8_least 45 = .ok (.istore 6, 2) := dk_54 6 (dk_at dksX8_least_1 22 rfl rfl)
theorem dX8_least_47 : decode cX8_least 47 = .ok (.iload 4, 2) := dk_21 4 (dk_at dksX8_least_2 0 rfl rfl)
theorem dX8_least_49 : decode cX8_least 49 = .ok (.iconst (-1), 1) := dk_2 (dk_at dksX8_least_2 2 rfl rfl)
theorem dX8_least_50 : decode cX8_least 50 = .ok (.if_icmp .eq 24, 3) := dk_159 0 24 (dk_at dksX8_least_2 3 rfl rfl)
theorem dX8_least_53 : decode cX8_least 53 = .ok (.iload_n 3, 1) := dk_29 (dk_at dksX8_least_2 6 rfl rfl)
theorem dX8_least_54 : decode cX8_least 54 = .ok (.ifCond .eq 13, 3) := dk_153 0 13 (dk_at dksX8_least_2 7 rfl rfl)
theorem dX8_least_57 : decode cX8_least 57 = .ok (.iload 6, 2) := dk_21 6 (dk_at dksX8_least_2 10 rfl rfl)
theorem dX8_least_59 : decode cX8_least 59 = .ok (.iload 4, 2) := dk_21 4 (dk_at dksX8_least_2 12 rfl rfl)
theorem dX8_least_61 : decode cX8_least 61 = .ok (.if_icmp .le 17, 3) := dk_164 0 17 (dk_at dksX8_least_2 14 rfl rfl)
theorem dX8_least_64 : decode cX8_least 64 = .ok (.goto 10, 3) := dk_167 0 10 (dk_at dksX8_least_2 17 rfl rfl)
theorem dX8_least_67 : decode cX8_least 67 = .ok (.iload 6, 2) := dk_21 6 (dk_at dksX8_least_2 20 rfl rfl)
theorem dX8_least_69 : decode cX8_least 69 = .ok (.iload 4, 2) := dk_21 4 (dk_at dksX8_least_2 22 rfl rfl)
theorem dX8_least_71 : decode cX8_least 71 = .ok (.if_icmp .ge 7, 3) := dk_162 0 7 (dk_at dksX8_least_3 0 rfl rfl)
theorem dX8_least_74 : decode cX8_least 74 = .ok (.iload 6, 2) := dk_21 6 (dk_at dksX8_least_3 3 rfl rfl)
theorem dX8_least_76 : decode cX8_least 76 = .ok (.istore 4, 2) := dk_54 4 (dk_at dksX8_least_3 5 rfl rfl)
theorem dX8_least_78 : decode cX8_least 78 = .ok (.iinc 5 1, 3) := dk_132 5 1 (dk_at dksX8_least_3 7 rfl rfl)
theorem dX8_least_81 : decode cX8_least 81 = .ok (.goto (-75), 3) := dk_167 255 181 (dk_at dksX8_least_3 10 rfl rfl)
theorem dX8_least_84 : decode cX8_least 84 = .ok (.iload 4, 2) := dk_21 4 (dk_at dksX8_least_3 13 rfl rfl)
theorem dX8_least_86 : decode cX8_least 86 = .ok (.iconst (-1), 1) := dk_2 (dk_at dksX8_least_3 15 rfl rfl)
theorem dX8_least_87 : decode cX8_least 87 = .ok (.if_icmp .ne 14, 3) := dk_160 0 14 (dk_at dksX8_least_3 16 rfl rfl)
theorem dX8_least_90 : decode cX8_least 90 = .ok (.aload_n 0, 1) := dk_42 (dk_at dksX8_least_3 19 rfl rfl)
theorem dX8_least_91 : decode cX8_least 91 = .ok (.iload_n 1, 1) := dk_27 (dk_at dksX8_least_3 20 rfl rfl)
theorem dX8_least_92 : decode cX8_least 92 = .ok (.iload_n 2, 1) := dk_28 (dk_at dksX8_least_3 21 rfl rfl)
theorem dX8_least_93 : decode cX8_least 93 = .ok (.iconst 1, 1) := dk_4 (dk_at dksX8_least_3 22 rfl rfl)
theorem dX8_least_94 : decode cX8_least 94 = .ok (.isub, 1) := dk_100 (dk_at dksX8_least_3 23 rfl rfl)
theorem dX8_least_95 : decode cX8_least 95 = .ok (.invokevirtual 266, 3) := dk_182 1 10 (dk_at dksX8_least_4 0 rfl rfl)
theorem dX8_least_98 : decode cX8_least 98 = .ok (.goto 5, 3) := dk_167 0 5 (dk_at dksX8_least_4 3 rfl rfl)
theorem dX8_least_101 : decode cX8_least 101 = .ok (.iload 4, 2) := dk_21 4 (dk_at dksX8_least_4 6 rfl rfl)
theorem dX8_least_103 : decode cX8_least 103 = .ok (.ireturn, 1) := dk_172 (dk_at dksX8_least_4 8 rfl rfl)
abbrev cX8_sinceAt : ByteArray := prog_29_method_37_code
def yX8_sinceAt : MethodName := ⟨RX8, "sinceAt", "(II)I"⟩
def dkwX8_sinceAt_3 : List UInt8 := [28, 4, 96, 167, 0, 6, 28, 29, 100, 184, 1, 13, 172]
abbrev dktX8_sinceAt_3 : List UInt8 := dkwX8_sinceAt_3 ++ []
def dkwX8_sinceAt_2 : List UInt8 := [4, 100, 182, 1, 10, 159, 0, 6, 21, 4, 62, 132, 4, 1, 167, 255, 218, 16, 99, 29, 2, 160, 0, 9]
abbrev dktX8_sinceAt_2 : List UInt8 := dkwX8_sinceAt_2 ++ dktX8_sinceAt_3
def dkwX8_sinceAt_1 : List UInt8 := [21, 4, 28, 162, 0, 38, 42, 180, 1, 1, 153, 0, 31, 42, 27, 21, 4, 182, 1, 10, 42, 27, 21, 4]
abbrev dktX8_sinceAt_1 : List UInt8 := dkwX8_sinceAt_1 ++ dktX8_sinceAt_2
def dkwX8_sinceAt_0 : List UInt8 := [42, 180, 1, 1, 153, 0, 7, 2, 167, 0, 12, 42, 180, 0, 9, 16, 24, 27, 96, 46, 62, 4, 54, 4]
abbrev dktX8_sinceAt_0 : List UInt8 := dkwX8_sinceAt_0 ++ dktX8_sinceAt_1
theorem dksX8_sinceAt_0 : cX8_sinceAt.data.toList.drop 0 = dktX8_sinceAt_0 := by decide +kernel
theorem dksX8_sinceAt_1 : cX8_sinceAt.data.toList.drop 24 = dktX8_sinceAt_1 := dk_seg dksX8_sinceAt_0 24 rfl rfl
theorem dksX8_sinceAt_2 : cX8_sinceAt.data.toList.drop 48 = dktX8_sinceAt_2 := dk_seg dksX8_sinceAt_1 24 rfl rfl
theorem dksX8_sinceAt_3 : cX8_sinceAt.data.toList.drop 72 = dktX8_sinceAt_3 := dk_seg dksX8_sinceAt_2 24 rfl rfl
theorem dX8_sinceAt_0 : decode cX8_sinceAt 0 = .ok (.aload_n 0, 1) := dk_42 (dk_at dksX8_sinceAt_0 0 rfl rfl)
theorem dX8_sinceAt_1 : decode cX8_sinceAt 1 = .ok (.getfield 257, 3) := dk_180 1 1 (dk_at dksX8_sinceAt_0 1 rfl rfl)
theorem dX8_sinceAt_4 : decode cX8_sinceAt 4 = .ok (.ifCond .eq 7, 3) := dk_153 0 7 (dk_at dksX8_sinceAt_0 4 rfl rfl)
theorem dX8_sinceAt_7 : decode cX8_sinceAt 7 = .ok (.iconst (-1), 1) := dk_2 (dk_at dksX8_sinceAt_0 7 rfl rfl)
theorem dX8_sinceAt_8 : decode cX8_sinceAt 8 = .ok (.goto 12, 3) := dk_167 0 12 (dk_at dksX8_sinceAt_0 8 rfl rfl)
theorem dX8_sinceAt_11 : decode cX8_sinceAt 11 = .ok (.aload_n 0, 1) := dk_42 (dk_at dksX8_sinceAt_0 11 rfl rfl)
theorem dX8_sinceAt_12 : decode cX8_sinceAt 12 = .ok (.getfield 9, 3) := dk_180 0 9 (dk_at dksX8_sinceAt_0 12 rfl rfl)
theorem dX8_sinceAt_15 : decode cX8_sinceAt 15 = .ok (.bipush 24, 2) := dk_16 24 (dk_at dksX8_sinceAt_0 15 rfl rfl)
theorem dX8_sinceAt_17 : decode cX8_sinceAt 17 = .ok (.iload_n 1, 1) := dk_27 (dk_at dksX8_sinceAt_0 17 rfl rfl)
theorem dX8_sinceAt_18 : decode cX8_sinceAt 18 = .ok (.iadd, 1) := dk_96 (dk_at dksX8_sinceAt_0 18 rfl rfl)
theorem dX8_sinceAt_19 : decode cX8_sinceAt 19 = .ok (.iaload, 1) := dk_46 (dk_at dksX8_sinceAt_0 19 rfl rfl)
theorem dX8_sinceAt_20 : decode cX8_sinceAt 20 = .ok (.istore_n 3, 1) := dk_62 (dk_at dksX8_sinceAt_0 20 rfl rfl)
theorem dX8_sinceAt_21 : decode cX8_sinceAt 21 = .ok (.iconst 1, 1) := dk_4 (dk_at dksX8_sinceAt_0 21 rfl rfl)
theorem dX8_sinceAt_22 : decode cX8_sinceAt 22 = .ok (.istore 4, 2) := dk_54 4 (dk_at dksX8_sinceAt_0 22 rfl rfl)
theorem dX8_sinceAt_24 : decode cX8_sinceAt 24 = .ok (.iload 4, 2) := dk_21 4 (dk_at dksX8_sinceAt_1 0 rfl rfl)
theorem dX8_sinceAt_26 : decode cX8_sinceAt 26 = .ok (.iload_n 2, 1) := dk_28 (dk_at dksX8_sinceAt_1 2 rfl rfl)
theorem dX8_sinceAt_27 : decode cX8_sinceAt 27 = .ok (.if_icmp .ge 38, 3) := dk_162 0 38 (dk_at dksX8_sinceAt_1 3 rfl rfl)
theorem dX8_sinceAt_30 : decode cX8_sinceAt 30 = .ok (.aload_n 0, 1) := dk_42 (dk_at dksX8_sinceAt_1 6 rfl rfl)
theorem dX8_sinceAt_31 : decode cX8_sinceAt 31 = .ok (.getfield 257, 3) := dk_180 1 1 (dk_at dksX8_sinceAt_1 7 rfl rfl)
theorem dX8_sinceAt_34 : decode cX8_sinceAt 34 = .ok (.ifCond .eq 31, 3) := dk_153 0 31 (dk_at dksX8_sinceAt_1 10 rfl rfl)
theorem dX8_sinceAt_37 : decode cX8_sinceAt 37 = .ok (.aload_n 0, 1) := dk_42 (dk_at dksX8_sinceAt_1 13 rfl rfl)
theorem dX8_sinceAt_38 : decode cX8_sinceAt 38 = .ok (.iload_n 1, 1) := dk_27 (dk_at dksX8_sinceAt_1 14 rfl rfl)
theorem dX8_sinceAt_39 : decode cX8_sinceAt 39 = .ok (.iload 4, 2) := dk_21 4 (dk_at dksX8_sinceAt_1 15 rfl rfl)
theorem dX8_sinceAt_41 : decode cX8_sinceAt 41 = .ok (.invokevirtual 266, 3) := dk_182 1 10 (dk_at dksX8_sinceAt_1 17 rfl rfl)
theorem dX8_sinceAt_44 : decode cX8_sinceAt 44 = .ok (.aload_n 0, 1) := dk_42 (dk_at dksX8_sinceAt_1 20 rfl rfl)
theorem dX8_sinceAt_45 : decode cX8_sinceAt 45 = .ok (.iload_n 1, 1) := dk_27 (dk_at dksX8_sinceAt_1 21 rfl rfl)
theorem dX8_sinceAt_46 : decode cX8_sinceAt 46 = .ok (.iload 4, 2) := dk_21 4 (dk_at dksX8_sinceAt_1 22 rfl rfl)
theorem dX8_sinceAt_48 : decode cX8_sinceAt 48 = .ok (.iconst 1, 1) := dk_4 (dk_at dksX8_sinceAt_2 0 rfl rfl)
theorem dX8_sinceAt_49 : decode cX8_sinceAt 49 = .ok (.isub, 1) := dk_100 (dk_at dksX8_sinceAt_2 1 rfl rfl)
theorem dX8_sinceAt_50 : decode cX8_sinceAt 50 = .ok (.invokevirtual 266, 3) := dk_182 1 10 (dk_at dksX8_sinceAt_2 2 rfl rfl)
theorem dX8_sinceAt_53 : decode cX8_sinceAt 53 = .ok (.if_icmp .eq 6, 3) := dk_159 0 6 (dk_at dksX8_sinceAt_2 5 rfl rfl)
theorem dX8_sinceAt_56 : decode cX8_sinceAt 56 = .ok (.iload 4, 2) := dk_21 4 (dk_at dksX8_sinceAt_2 8 rfl rfl)
theorem dX8_sinceAt_58 : decode cX8_sinceAt 58 = .ok (.istore_n 3, 1) := dk_62 (dk_at dksX8_sinceAt_2 10 rfl rfl)
theorem dX8_sinceAt_59 : decode cX8_sinceAt 59 = .ok (.iinc 4 1, 3) := dk_132 4 1 (dk_at dksX8_sinceAt_2 11 rfl rfl)
theorem dX8_sinceAt_62 : decode cX8_sinceAt 62 = .ok (.goto (-38), 3) := dk_167 255 218 (dk_at dksX8_sinceAt_2 14 rfl rfl)
theorem dX8_sinceAt_65 : decode cX8_sinceAt 65 = .ok (.bipush 99, 2) := dk_16 99 (dk_at dksX8_sinceAt_2 17 rfl rfl)
theorem dX8_sinceAt_67 : decode cX8_sinceAt 67 = .ok (.iload_n 3, 1) := dk_29 (dk_at dksX8_sinceAt_2 19 rfl rfl)
theorem dX8_sinceAt_68 : decode cX8_sinceAt 68 = .ok (.iconst (-1), 1) := dk_2 (dk_at dksX8_sinceAt_2 20 rfl rfl)
theorem dX8_sinceAt_69 : decode cX8_sinceAt 69 = .ok (.if_icmp .ne 9, 3) := dk_160 0 9 (dk_at dksX8_sinceAt_2 21 rfl rfl)
theorem dX8_sinceAt_72 : decode cX8_sinceAt 72 = .ok (.iload_n 2, 1) := dk_28 (dk_at dksX8_sinceAt_3 0 rfl rfl)
theorem dX8_sinceAt_73 : decode cX8_sinceAt 73 = .ok (.iconst 1, 1) := dk_4 (dk_at dksX8_sinceAt_3 1 rfl rfl)
theorem dX8_sinceAt_74 : decode cX8_sinceAt 74 = .ok (.iadd, 1) := dk_96 (dk_at dksX8_sinceAt_3 2 rfl rfl)
theorem dX8_sinceAt_75 : decode cX8_sinceAt 75 = .ok (.goto 6, 3) := dk_167 0 6 (dk_at dksX8_sinceAt_3 3 rfl rfl)
theorem dX8_sinceAt_78 : decode cX8_sinceAt 78 = .ok (.iload_n 2, 1) := dk_28 (dk_at dksX8_sinceAt_3 6 rfl rfl)
theorem dX8_sinceAt_79 : decode cX8_sinceAt 79 = .ok (.iload_n 3, 1) := dk_29 (dk_at dksX8_sinceAt_3 7 rfl rfl)
theorem dX8_sinceAt_80 : decode cX8_sinceAt 80 = .ok (.isub, 1) := dk_100 (dk_at dksX8_sinceAt_3 8 rfl rfl)
theorem dX8_sinceAt_81 : decode cX8_sinceAt 81 = .ok (.invokestatic 269, 3) := dk_184 1 13 (dk_at dksX8_sinceAt_3 9 rfl rfl)
theorem dX8_sinceAt_84 : decode cX8_sinceAt 84 = .ok (.ireturn, 1) := dk_172 (dk_at dksX8_sinceAt_3 12 rfl rfl)
abbrev cX8_moved : ByteArray := prog_29_method_39_code
def yX8_moved : MethodName := ⟨RX8, "moved", "(IIZ)I"⟩
def dkwX8_moved_4 : List UInt8 := [167, 255, 184, 21, 4, 172]
abbrev dktX8_moved_4 : List UInt8 := dkwX8_moved_4 ++ []
def dkwX8_moved_3 : List UInt8 := [182, 1, 10, 42, 21, 6, 21, 5, 4, 100, 182, 1, 10, 162, 0, 6, 132, 4, 1, 132, 6, 1]
abbrev dktX8_moved_3 : List UInt8 := dkwX8_moved_3 ++ dktX8_moved_4
def dkwX8_moved_2 : List UInt8 := [182, 1, 10, 42, 21, 6, 21, 5, 4, 100, 182, 1, 10, 164, 0, 30, 167, 0, 24, 42, 21, 6, 21, 5]
abbrev dktX8_moved_2 : List UInt8 := dkwX8_moved_2 ++ dktX8_moved_3
def dkwX8_moved_1 : List UInt8 := [180, 0, 9, 3, 46, 162, 0, 67, 21, 6, 27, 159, 0, 55, 29, 153, 0, 27, 42, 21, 6, 21, 5]
abbrev dktX8_moved_1 : List UInt8 := dkwX8_moved_1 ++ dktX8_moved_2
def dkwX8_moved_0 : List UInt8 := [3, 54, 4, 28, 4, 100, 42, 180, 0, 9, 16, 16, 27, 96, 46, 100, 54, 5, 3, 54, 6, 21, 6, 42]
abbrev dktX8_moved_0 : List UInt8 := dkwX8_moved_0 ++ dktX8_moved_1
theorem dksX8_moved_0 : cX8_moved.data.toList.drop 0 = dktX8_moved_0 := by decide +kernel
theorem dksX8_moved_1 : cX8_moved.data.toList.drop 24 = dktX8_moved_1 := dk_seg dksX8_moved_0 24 rfl rfl
theorem dksX8_moved_2 : cX8_moved.data.toList.drop 47 = dktX8_moved_2 := dk_seg dksX8_moved_1 23 rfl rfl
theorem dksX8_moved_3 : cX8_moved.data.toList.drop 71 = dktX8_moved_3 := dk_seg dksX8_moved_2 24 rfl rfl
theorem dksX8_moved_4 : cX8_moved.data.toList.drop 93 = dktX8_moved_4 := dk_seg dksX8_moved_3 22 rfl rfl
theorem dX8_moved_0 : decode cX8_moved 0 = .ok (.iconst 0, 1) := dk_3 (dk_at dksX8_moved_0 0 rfl rfl)
theorem dX8_moved_1 : decode cX8_moved 1 = .ok (.istore 4, 2) := dk_54 4 (dk_at dksX8_moved_0 1 rfl rfl)
theorem dX8_moved_3 : decode cX8_moved 3 = .ok (.iload_n 2, 1) := dk_28 (dk_at dksX8_moved_0 3 rfl rfl)
theorem dX8_moved_4 : decode cX8_moved 4 = .ok (.iconst 1, 1) := dk_4 (dk_at dksX8_moved_0 4 rfl rfl)
theorem dX8_moved_5 : decode cX8_moved 5 = .ok (.isub, 1) := dk_100 (dk_at dksX8_moved_0 5 rfl rfl)
theorem dX8_moved_6 : decode cX8_moved 6 = .ok (.aload_n 0, 1) := dk_42 (dk_at dksX8_moved_0 6 rfl rfl)
theorem dX8_moved_7 : decode cX8_moved 7 = .ok (.getfield 9, 3) := dk_180 0 9 (dk_at dksX8_moved_0 7 rfl rfl)
theorem dX8_moved_10 : decode cX8_moved 10 = .ok (.bipush 16, 2) := dk_16 16 (dk_at dksX8_moved_0 10 rfl rfl)
theorem dX8_moved_12 : decode cX8_moved 12 = .ok (.iload_n 1, 1) := dk_27 (dk_at dksX8_moved_0 12 rfl rfl)
theorem dX8_moved_13 : decode cX8_moved 13 = .ok (.iadd, 1) := dk_96 (dk_at dksX8_moved_0 13 rfl rfl)
theorem dX8_moved_14 : decode cX8_moved 14 = .ok (.iaload, 1) := dk_46 (dk_at dksX8_moved_0 14 rfl rfl)
theorem dX8_moved_15 : decode cX8_moved 15 = .ok (.isub, 1) := dk_100 (dk_at dksX8_moved_0 15 rfl rfl)
theorem dX8_moved_16 : decode cX8_moved 16 = .ok (.istore 5, 2) := dk_54 5 (dk_at dksX8_moved_0 16 rfl rfl)
theorem dX8_moved_18 : decode cX8_moved 18 = .ok (.iconst 0, 1) := dk_3 (dk_at dksX8_moved_0 18 rfl rfl)
theorem dX8_moved_19 : decode cX8_moved 19 = .ok (.istore 6, 2) := dk_54 6 (dk_at dksX8_moved_0 19 rfl rfl)
theorem dX8_moved_21 : decode cX8_moved 21 = .ok (.iload 6, 2) := dk_21 6 (dk_at dksX8_moved_0 21 rfl rfl)
theorem dX8_moved_23 : decode cX8_moved 23 = .ok (.aload_n 0, 1) := dk_42 (dk_at dksX8_moved_0 23 rfl rfl)
theorem dX8_moved_24 : decode cX8_moved 24 = .ok (.getfield 9, 3) := dk_180 0 9 (dk_at dksX8_moved_1 0 rfl rfl)
theorem dX8_moved_27 : decode cX8_moved 27 = .ok (.iconst 0, 1) := dk_3 (dk_at dksX8_moved_1 3 rfl rfl)
theorem dX8_moved_28 : decode cX8_moved 28 = .ok (.iaload, 1) := dk_46 (dk_at dksX8_moved_1 4 rfl rfl)
theorem dX8_moved_29 : decode cX8_moved 29 = .ok (.if_icmp .ge 67, 3) := dk_162 0 67 (dk_at dksX8_moved_1 5 rfl rfl)
theorem dX8_moved_32 : decode cX8_moved 32 = .ok (.iload 6, 2) := dk_21 6 (dk_at dksX8_moved_1 8 rfl rfl)
theorem dX8_moved_34 : decode cX8_moved 34 = .ok (.iload_n 1, 1) := dk_27 (dk_at dksX8_moved_1 10 rfl rfl)
theorem dX8_moved_35 : decode cX8_moved 35 = .ok (.if_icmp .eq 55, 3) := dk_159 0 55 (dk_at dksX8_moved_1 11 rfl rfl)
theorem dX8_moved_38 : decode cX8_moved 38 = .ok (.iload_n 3, 1) := dk_29 (dk_at dksX8_moved_1 14 rfl rfl)
theorem dX8_moved_39 : decode cX8_moved 39 = .ok (.ifCond .eq 27, 3) := dk_153 0 27 (dk_at dksX8_moved_1 15 rfl rfl)
theorem dX8_moved_42 : decode cX8_moved 42 = .ok (.aload_n 0, 1) := dk_42 (dk_at dksX8_moved_1 18 rfl rfl)
theorem dX8_moved_43 : decode cX8_moved 43 = .ok (.iload 6, 2) := dk_21 6 (dk_at dksX8_moved_1 19 rfl rfl)
theorem dX8_moved_45 : decode cX8_moved 45 = .ok (.iload 5, 2) := dk_21 5 (dk_at dksX8_moved_1 21 rfl rfl)
theorem dX8_moved_47 : decode cX8_moved 47 = .ok (.invokevirtual 266, 3) := dk_182 1 10 (dk_at dksX8_moved_2 0 rfl rfl)
theorem dX8_moved_50 : decode cX8_moved 50 = .ok (.aload_n 0, 1) := dk_42 (dk_at dksX8_moved_2 3 rfl rfl)
theorem dX8_moved_51 : decode cX8_moved 51 = .ok (.iload 6, 2) := dk_21 6 (dk_at dksX8_moved_2 4 rfl rfl)
theorem dX8_moved_53 : decode cX8_moved 53 = .ok (.iload 5, 2) := dk_21 5 (dk_at dksX8_moved_2 6 rfl rfl)
theorem dX8_moved_55 : decode cX8_moved 55 = .ok (.iconst 1, 1) := dk_4 (dk_at dksX8_moved_2 8 rfl rfl)
theorem dX8_moved_56 : decode cX8_moved 56 = .ok (.isub, 1) := dk_100 (dk_at dksX8_moved_2 9 rfl rfl)
theorem dX8_moved_57 : decode cX8_moved 57 = .ok (.invokevirtual 266, 3) := dk_182 1 10 (dk_at dksX8_moved_2 10 rfl rfl)
theorem dX8_moved_60 : decode cX8_moved 60 = .ok (.if_icmp .le 30, 3) := dk_164 0 30 (dk_at dksX8_moved_2 13 rfl rfl)
theorem dX8_moved_63 : decode cX8_moved 63 = .ok (.goto 24, 3) := dk_167 0 24 (dk_at dksX8_moved_2 16 rfl rfl)
theorem dX8_moved_66 : decode cX8_moved 66 = .ok (.aload_n 0, 1) := dk_42 (dk_at dksX8_moved_2 19 rfl rfl)
theorem dX8_moved_67 : decode cX8_moved 67 = .ok (.iload 6, 2) := dk_21 6 (dk_at dksX8_moved_2 20 rfl rfl)
theorem dX8_moved_69 : decode cX8_moved 69 = .ok (.iload 5, 2) := dk_21 5 (dk_at dksX8_moved_2 22 rfl rfl)
theorem dX8_moved_71 : decode cX8_moved 71 = .ok (.invokevirtual 266, 3) := dk_182 1 10 (dk_at dksX8_moved_3 0 rfl rfl)
theorem dX8_moved_74 : decode cX8_moved 74 = .ok (.aload_n 0, 1) := dk_42 (dk_at dksX8_moved_3 3 rfl rfl)
theorem dX8_moved_75 : decode cX8_moved 75 = .ok (.iload 6, 2) := dk_21 6 (dk_at dksX8_moved_3 4 rfl rfl)
theorem dX8_moved_77 : decode cX8_moved 77 = .ok (.iload 5, 2) := dk_21 5 (dk_at dksX8_moved_3 6 rfl rfl)
theorem dX8_moved_79 : decode cX8_moved 79 = .ok (.iconst 1, 1) := dk_4 (dk_at dksX8_moved_3 8 rfl rfl)
theorem dX8_moved_80 : decode cX8_moved 80 = .ok (.isub, 1) := dk_100 (dk_at dksX8_moved_3 9 rfl rfl)
theorem dX8_moved_81 : decode cX8_moved 81 = .ok (.invokevirtual 266, 3) := dk_182 1 10 (dk_at dksX8_moved_3 10 rfl rfl)
theorem dX8_moved_84 : decode cX8_moved 84 = .ok (.if_icmp .ge 6, 3) := dk_162 0 6 (dk_at dksX8_moved_3 13 rfl rfl)
theorem dX8_moved_87 : decode cX8_moved 87 = .ok (.iinc 4 1, 3) := dk_132 4 1 (dk_at dksX8_moved_3 16 rfl rfl)
theorem dX8_moved_90 : decode cX8_moved 90 = .ok (.iinc 6 1, 3) := dk_132 6 1 (dk_at dksX8_moved_3 19 rfl rfl)
theorem dX8_moved_93 : decode cX8_moved 93 = .ok (.goto (-72), 3) := dk_167 255 184 (dk_at dksX8_moved_4 0 rfl rfl)
theorem dX8_moved_96 : decode cX8_moved 96 = .ok (.iload 4, 2) := dk_21 4 (dk_at dksX8_moved_4 3 rfl rfl)
theorem dX8_moved_98 : decode cX8_moved 98 = .ok (.ireturn, 1) := dk_172 (dk_at dksX8_moved_4 5 rfl rfl)
abbrev cX8_both : ByteArray := prog_29_method_41_code
def yX8_both : MethodName := ⟨RX8, "both", "(III)I"⟩
def dkwX8_both_4 : List UInt8 := [172]
abbrev dktX8_both_4 : List UInt8 := dkwX8_both_4 ++ []
def dkwX8_both_3 : List UInt8 := [4, 167, 0, 4, 3, 172, 27, 28, 164, 0, 7, 4, 167, 0, 4, 3, 172, 27, 28, 126, 172, 27, 28, 128]
abbrev dktX8_both_3 : List UInt8 := dkwX8_both_3 ++ dktX8_both_4
def dkwX8_both_2 : List UInt8 := [27, 28, 96, 172, 27, 28, 100, 172, 27, 28, 162, 0, 7, 4, 167, 0, 4, 3, 172, 27, 28, 160, 0, 7]
abbrev dktX8_both_2 : List UInt8 := dkwX8_both_2 ++ dktX8_both_3
def dkwX8_both_1 : List UInt8 := [170, 0, 0, 0, 0, 0, 88, 0, 0, 0, 110, 0, 0, 0, 116, 0, 0, 0, 43, 0, 0, 0, 47, 0, 0, 0, 51, 0, 0, 0, 62, 0, 0, 0, 73, 0, 0, 0, 88, 0, 0, 0, 84]
abbrev dktX8_both_1 : List UInt8 := dkwX8_both_1 ++ dktX8_both_2
def dkwX8_both_0 : List UInt8 := [26]
abbrev dktX8_both_0 : List UInt8 := dkwX8_both_0 ++ dktX8_both_1
theorem dksX8_both_0 : cX8_both.data.toList.drop 0 = dktX8_both_0 := by decide +kernel
theorem dksX8_both_1 : cX8_both.data.toList.drop 1 = dktX8_both_1 := dk_seg dksX8_both_0 1 rfl rfl
theorem dksX8_both_2 : cX8_both.data.toList.drop 44 = dktX8_both_2 := dk_seg dksX8_both_1 43 rfl rfl
theorem dksX8_both_3 : cX8_both.data.toList.drop 68 = dktX8_both_3 := dk_seg dksX8_both_2 24 rfl rfl
theorem dksX8_both_4 : cX8_both.data.toList.drop 92 = dktX8_both_4 := dk_seg dksX8_both_3 24 rfl rfl
theorem dX8_both_0 : decode cX8_both 0 = .ok (.iload_n 0, 1) := dk_26 (dk_at dksX8_both_0 0 rfl rfl)
theorem dX8_both_1 : decode cX8_both 1 = .ok (.tableswitch 88 110 116 #[43, 47, 51, 62, 73, 88, 84], 43) := by decide +kernel
theorem dX8_both_44 : decode cX8_both 44 = .ok (.iload_n 1, 1) := dk_27 (dk_at dksX8_both_2 0 rfl rfl)
theorem dX8_both_45 : decode cX8_both 45 = .ok (.iload_n 2, 1) := dk_28 (dk_at dksX8_both_2 1 rfl rfl)
theorem dX8_both_46 : decode cX8_both 46 = .ok (.iadd, 1) := dk_96 (dk_at dksX8_both_2 2 rfl rfl)
theorem dX8_both_47 : decode cX8_both 47 = .ok (.ireturn, 1) := dk_172 (dk_at dksX8_both_2 3 rfl rfl)
theorem dX8_both_48 : decode cX8_both 48 = .ok (.iload_n 1, 1) := dk_27 (dk_at dksX8_both_2 4 rfl rfl)
theorem dX8_both_49 : decode cX8_both 49 = .ok (.iload_n 2, 1) := dk_28 (dk_at dksX8_both_2 5 rfl rfl)
theorem dX8_both_50 : decode cX8_both 50 = .ok (.isub, 1) := dk_100 (dk_at dksX8_both_2 6 rfl rfl)
theorem dX8_both_51 : decode cX8_both 51 = .ok (.ireturn, 1) := dk_172 (dk_at dksX8_both_2 7 rfl rfl)
theorem dX8_both_52 : decode cX8_both 52 = .ok (.iload_n 1, 1) := dk_27 (dk_at dksX8_both_2 8 rfl rfl)
theorem dX8_both_53 : decode cX8_both 53 = .ok (.iload_n 2, 1) := dk_28 (dk_at dksX8_both_2 9 rfl rfl)
theorem dX8_both_54 : decode cX8_both 54 = .ok (.if_icmp .ge 7, 3) := dk_162 0 7 (dk_at dksX8_both_2 10 rfl rfl)
theorem dX8_both_57 : decode cX8_both 57 = .ok (.iconst 1, 1) := dk_4 (dk_at dksX8_both_2 13 rfl rfl)
theorem dX8_both_58 : decode cX8_both 58 = .ok (.goto 4, 3) := dk_167 0 4 (dk_at dksX8_both_2 14 rfl rfl)
theorem dX8_both_61 : decode cX8_both 61 = .ok (.iconst 0, 1) := dk_3 (dk_at dksX8_both_2 17 rfl rfl)
theorem dX8_both_62 : decode cX8_both 62 = .ok (.ireturn, 1) := dk_172 (dk_at dksX8_both_2 18 rfl rfl)
theorem dX8_both_63 : decode cX8_both 63 = .ok (.iload_n 1, 1) := dk_27 (dk_at dksX8_both_2 19 rfl rfl)
theorem dX8_both_64 : decode cX8_both 64 = .ok (.iload_n 2, 1) := dk_28 (dk_at dksX8_both_2 20 rfl rfl)
theorem dX8_both_65 : decode cX8_both 65 = .ok (.if_icmp .ne 7, 3) := dk_160 0 7 (dk_at dksX8_both_2 21 rfl rfl)
theorem dX8_both_68 : decode cX8_both 68 = .ok (.iconst 1, 1) := dk_4 (dk_at dksX8_both_3 0 rfl rfl)
theorem dX8_both_69 : decode cX8_both 69 = .ok (.goto 4, 3) := dk_167 0 4 (dk_at dksX8_both_3 1 rfl rfl)
theorem dX8_both_72 : decode cX8_both 72 = .ok (.iconst 0, 1) := dk_3 (dk_at dksX8_both_3 4 rfl rfl)
theorem dX8_both_73 : decode cX8_both 73 = .ok (.ireturn, 1) := dk_172 (dk_at dksX8_both_3 5 rfl rfl)
theorem dX8_both_74 : decode cX8_both 74 = .ok (.iload_n 1, 1) := dk_27 (dk_at dksX8_both_3 6 rfl rfl)
theorem dX8_both_75 : decode cX8_both 75 = .ok (.iload_n 2, 1) := dk_28 (dk_at dksX8_both_3 7 rfl rfl)
theorem dX8_both_76 : decode cX8_both 76 = .ok (.if_icmp .le 7, 3) := dk_164 0 7 (dk_at dksX8_both_3 8 rfl rfl)
theorem dX8_both_79 : decode cX8_both 79 = .ok (.iconst 1, 1) := dk_4 (dk_at dksX8_both_3 11 rfl rfl)
theorem dX8_both_80 : decode cX8_both 80 = .ok (.goto 4, 3) := dk_167 0 4 (dk_at dksX8_both_3 12 rfl rfl)
theorem dX8_both_83 : decode cX8_both 83 = .ok (.iconst 0, 1) := dk_3 (dk_at dksX8_both_3 15 rfl rfl)
theorem dX8_both_84 : decode cX8_both 84 = .ok (.ireturn, 1) := dk_172 (dk_at dksX8_both_3 16 rfl rfl)
theorem dX8_both_85 : decode cX8_both 85 = .ok (.iload_n 1, 1) := dk_27 (dk_at dksX8_both_3 17 rfl rfl)
theorem dX8_both_86 : decode cX8_both 86 = .ok (.iload_n 2, 1) := dk_28 (dk_at dksX8_both_3 18 rfl rfl)
theorem dX8_both_87 : decode cX8_both 87 = .ok (.iand, 1) := dk_126 (dk_at dksX8_both_3 19 rfl rfl)
theorem dX8_both_88 : decode cX8_both 88 = .ok (.ireturn, 1) := dk_172 (dk_at dksX8_both_3 20 rfl rfl)
theorem dX8_both_89 : decode cX8_both 89 = .ok (.iload_n 1, 1) := dk_27 (dk_at dksX8_both_3 21 rfl rfl)
theorem dX8_both_90 : decode cX8_both 90 = .ok (.iload_n 2, 1) := dk_28 (dk_at dksX8_both_3 22 rfl rfl)
theorem dX8_both_91 : decode cX8_both 91 = .ok (.ior, 1) := dk_128 (dk_at dksX8_both_3 23 rfl rfl)
theorem dX8_both_92 : decode cX8_both 92 = .ok (.ireturn, 1) := dk_172 (dk_at dksX8_both_4 0 rfl rfl)
abbrev cX8_present : ByteArray := prog_29_method_46_code
def yX8_present : MethodName := ⟨RX8, "present", "()V"⟩
def dkwX8_present_1 : List UInt8 := [180, 0, 9, 16, 12, 27, 96, 46, 167, 0, 4, 3, 79, 132, 1, 1, 167, 255, 219, 177]
abbrev dktX8_present_1 : List UInt8 := dkwX8_present_1 ++ []
def dkwX8_present_0 : List UInt8 := [3, 60, 27, 7, 162, 0, 38, 42, 180, 0, 43, 27, 27, 42, 180, 0, 9, 3, 46, 162, 0, 15, 42]
abbrev dktX8_present_0 : List UInt8 := dkwX8_present_0 ++ dktX8_present_1
theorem dksX8_present_0 : cX8_present.data.toList.drop 0 = dktX8_present_0 := by decide +kernel
theorem dksX8_present_1 : cX8_present.data.toList.drop 23 = dktX8_present_1 := dk_seg dksX8_present_0 23 rfl rfl
theorem dX8_present_0 : decode cX8_present 0 = .ok (.iconst 0, 1) := dk_3 (dk_at dksX8_present_0 0 rfl rfl)
theorem dX8_present_1 : decode cX8_present 1 = .ok (.istore_n 1, 1) := dk_60 (dk_at dksX8_present_0 1 rfl rfl)
theorem dX8_present_2 : decode cX8_present 2 = .ok (.iload_n 1, 1) := dk_27 (dk_at dksX8_present_0 2 rfl rfl)
theorem dX8_present_3 : decode cX8_present 3 = .ok (.iconst 4, 1) := dk_7 (dk_at dksX8_present_0 3 rfl rfl)
theorem dX8_present_4 : decode cX8_present 4 = .ok (.if_icmp .ge 38, 3) := dk_162 0 38 (dk_at dksX8_present_0 4 rfl rfl)
theorem dX8_present_7 : decode cX8_present 7 = .ok (.aload_n 0, 1) := dk_42 (dk_at dksX8_present_0 7 rfl rfl)
theorem dX8_present_8 : decode cX8_present 8 = .ok (.getfield 43, 3) := dk_180 0 43 (dk_at dksX8_present_0 8 rfl rfl)
theorem dX8_present_11 : decode cX8_present 11 = .ok (.iload_n 1, 1) := dk_27 (dk_at dksX8_present_0 11 rfl rfl)
theorem dX8_present_12 : decode cX8_present 12 = .ok (.iload_n 1, 1) := dk_27 (dk_at dksX8_present_0 12 rfl rfl)
theorem dX8_present_13 : decode cX8_present 13 = .ok (.aload_n 0, 1) := dk_42 (dk_at dksX8_present_0 13 rfl rfl)
theorem dX8_present_14 : decode cX8_present 14 = .ok (.getfield 9, 3) := dk_180 0 9 (dk_at dksX8_present_0 14 rfl rfl)
theorem dX8_present_17 : decode cX8_present 17 = .ok (.iconst 0, 1) := dk_3 (dk_at dksX8_present_0 17 rfl rfl)
theorem dX8_present_18 : decode cX8_present 18 = .ok (.iaload, 1) := dk_46 (dk_at dksX8_present_0 18 rfl rfl)
theorem dX8_present_19 : decode cX8_present 19 = .ok (.if_icmp .ge 15, 3) := dk_162 0 15 (dk_at dksX8_present_0 19 rfl rfl)
theorem dX8_present_22 : decode cX8_present 22 = .ok (.aload_n 0, 1) := dk_42 (dk_at dksX8_present_0 22 rfl rfl)
theorem dX8_present_23 : decode cX8_present 23 = .ok (.getfield 9, 3) := dk_180 0 9 (dk_at dksX8_present_1 0 rfl rfl)
theorem dX8_present_26 : decode cX8_present 26 = .ok (.bipush 12, 2) := dk_16 12 (dk_at dksX8_present_1 3 rfl rfl)
theorem dX8_present_28 : decode cX8_present 28 = .ok (.iload_n 1, 1) := dk_27 (dk_at dksX8_present_1 5 rfl rfl)
theorem dX8_present_29 : decode cX8_present 29 = .ok (.iadd, 1) := dk_96 (dk_at dksX8_present_1 6 rfl rfl)
theorem dX8_present_30 : decode cX8_present 30 = .ok (.iaload, 1) := dk_46 (dk_at dksX8_present_1 7 rfl rfl)
theorem dX8_present_31 : decode cX8_present 31 = .ok (.goto 4, 3) := dk_167 0 4 (dk_at dksX8_present_1 8 rfl rfl)
theorem dX8_present_34 : decode cX8_present 34 = .ok (.iconst 0, 1) := dk_3 (dk_at dksX8_present_1 11 rfl rfl)
theorem dX8_present_35 : decode cX8_present 35 = .ok (.iastore, 1) := dk_79 (dk_at dksX8_present_1 12 rfl rfl)
theorem dX8_present_36 : decode cX8_present 36 = .ok (.iinc 1 1, 3) := dk_132 1 1 (dk_at dksX8_present_1 13 rfl rfl)
theorem dX8_present_39 : decode cX8_present 39 = .ok (.goto (-37), 3) := dk_167 255 219 (dk_at dksX8_present_1 16 rfl rfl)
theorem dX8_present_42 : decode cX8_present 42 = .ok (.return_, 1) := dk_177 (dk_at dksX8_present_1 19 rfl rfl)
abbrev cX8_where : ByteArray := prog_29_method_45_code
def yX8_where : MethodName := ⟨RX8, "where", "(I)I"⟩
def dkwX8_where_6 : List UInt8 := [167, 255, 144, 29, 172]
abbrev dktX8_where_6 : List UInt8 := dkwX8_where_6 ++ []
def dkwX8_where_5 : List UInt8 := [180, 0, 43, 21, 5, 46, 42, 180, 0, 9, 28, 6, 96, 46, 96, 54, 4, 21, 5, 62, 132, 5, 1]
abbrev dktX8_where_5 : List UInt8 := dkwX8_where_5 ++ dktX8_where_6
def dkwX8_where_4 : List UInt8 := [180, 0, 43, 21, 5, 46, 42, 180, 0, 9, 28, 6, 96, 46, 96, 21, 4, 161, 0, 6, 167, 0, 24, 42]
abbrev dktX8_where_4 : List UInt8 := dkwX8_where_4 ++ dktX8_where_5
def dkwX8_where_3 : List UInt8 := [3, 54, 6, 21, 5, 42, 180, 0, 9, 28, 4, 96, 46, 159, 0, 53, 21, 6, 153, 0, 48, 42]
abbrev dktX8_where_3 : List UInt8 := dkwX8_where_3 ++ dktX8_where_4
def dkwX8_where_2 : List UInt8 := [159, 0, 20, 42, 180, 0, 9, 28, 5, 96, 46, 21, 5, 122, 4, 126, 4, 160, 0, 7, 4, 167, 0, 4]
abbrev dktX8_where_2 : List UInt8 := dkwX8_where_2 ++ dktX8_where_3
def dkwX8_where_1 : List UInt8 := [3, 54, 5, 21, 5, 42, 180, 0, 9, 3, 46, 162, 0, 107, 42, 180, 0, 9, 16, 123, 46, 4]
abbrev dktX8_where_1 : List UInt8 := dkwX8_where_1 ++ dktX8_where_2
def dkwX8_where_0 : List UInt8 := [16, 28, 7, 27, 104, 96, 61, 42, 180, 0, 9, 28, 4, 96, 46, 62, 42, 180, 0, 43, 29, 46, 54, 4]
abbrev dktX8_where_0 : List UInt8 := dkwX8_where_0 ++ dktX8_where_1
theorem dksX8_where_0 : cX8_where.data.toList.drop 0 = dktX8_where_0 := by decide +kernel
theorem dksX8_where_1 : cX8_where.data.toList.drop 24 = dktX8_where_1 := dk_seg dksX8_where_0 24 rfl rfl
theorem dksX8_where_2 : cX8_where.data.toList.drop 46 = dktX8_where_2 := dk_seg dksX8_where_1 22 rfl rfl
theorem dksX8_where_3 : cX8_where.data.toList.drop 70 = dktX8_where_3 := dk_seg dksX8_where_2 24 rfl rfl
theorem dksX8_where_4 : cX8_where.data.toList.drop 92 = dktX8_where_4 := dk_seg dksX8_where_3 22 rfl rfl
theorem dksX8_where_5 : cX8_where.data.toList.drop 116 = dktX8_where_5 := dk_seg dksX8_where_4 24 rfl rfl
theorem dksX8_where_6 : cX8_where.data.toList.drop 139 = dktX8_where_6 := dk_seg dksX8_where_5 23 rfl rfl
theorem dX8_where_0 : decode cX8_where 0 = .ok (.bipush 28, 2) := dk_16 28 (dk_at dksX8_where_0 0 rfl rfl)
theorem dX8_where_2 : decode cX8_where 2 = .ok (.iconst 4, 1) := dk_7 (dk_at dksX8_where_0 2 rfl rfl)
theorem dX8_where_3 : decode cX8_where 3 = .ok (.iload_n 1, 1) := dk_27 (dk_at dksX8_where_0 3 rfl rfl)
theorem dX8_where_4 : decode cX8_where 4 = .ok (.imul, 1) := dk_104 (dk_at dksX8_where_0 4 rfl rfl)
theorem dX8_where_5 : decode cX8_where 5 = .ok (.iadd, 1) := dk_96 (dk_at dksX8_where_0 5 rfl rfl)
theorem dX8_where_6 : decode cX8_where 6 = .ok (.istore_n 2, 1) := dk_61 (dk_at dksX8_where_0 6 rfl rfl)
theorem dX8_where_7 : decode cX8_where 7 = .ok (.aload_n 0, 1) := dk_42 (dk_at dksX8_where_0 7 rfl rfl)
theorem dX8_where_8 : decode cX8_where 8 = .ok (.getfield 9, 3) := dk_180 0 9 (dk_at dksX8_where_0 8 rfl rfl)
theorem dX8_where_11 : decode cX8_where 11 = .ok (.iload_n 2, 1) := dk_28 (dk_at dksX8_where_0 11 rfl rfl)
theorem dX8_where_12 : decode cX8_where 12 = .ok (.iconst 1, 1) := dk_4 (dk_at dksX8_where_0 12 rfl rfl)
theorem dX8_where_13 : decode cX8_where 13 = .ok (.iadd, 1) := dk_96 (dk_at dksX8_where_0 13 rfl rfl)
theorem dX8_where_14 : decode cX8_where 14 = .ok (.iaload, 1) := dk_46 (dk_at dksX8_where_0 14 rfl rfl)
theorem dX8_where_15 : decode cX8_where 15 = .ok (.istore_n 3, 1) := dk_62 (dk_at dksX8_where_0 15 rfl rfl)
theorem dX8_where_16 : decode cX8_where 16 = .ok (.aload_n 0, 1) := dk_42 (dk_at dksX8_where_0 16 rfl rfl)
theorem dX8_where_17 : decode cX8_where 17 = .ok (.getfield 43, 3) := dk_180 0 43 (dk_at dksX8_where_0 17 rfl rfl)
theorem dX8_where_20 : decode cX8_where 20 = .ok (.iload_n 3, 1) := dk_29 (dk_at dksX8_where_0 20 rfl rfl)
theorem dX8_where_21 : decode cX8_where 21 = .ok (.iaload, 1) := dk_46 (dk_at dksX8_where_0 21 rfl rfl)
theorem dX8_where_22 : decode cX8_where 22 = .ok (.istore 4, 2) := dk_54 4 (dk_at dksX8_where_0 22 rfl rfl)
theorem dX8_where_24 : decode cX8_where 24 = .ok (.iconst 0, 1) := dk_3 (dk_at dksX8_where_1 0 rfl rfl)
theorem dX8_where_25 : decode cX8_where 25 = .ok (.istore 5, 2) := dk_54 5 (dk_at dksX8_where_1 1 rfl rfl)
theorem dX8_where_27 : decode cX8_where 27 = .ok (.iload 5, 2) := dk_21 5 (dk_at dksX8_where_1 3 rfl rfl)
theorem dX8_where_29 : decode cX8_where 29 = .ok (.aload_n 0, 1) := dk_42 (dk_at dksX8_where_1 5 rfl rfl)
theorem dX8_where_30 : decode cX8_where 30 = .ok (.getfield 9, 3) := dk_180 0 9 (dk_at dksX8_where_1 6 rfl rfl)
theorem dX8_where_33 : decode cX8_where 33 = .ok (.iconst 0, 1) := dk_3 (dk_at dksX8_where_1 9 rfl rfl)
theorem dX8_where_34 : decode cX8_where 34 = .ok (.iaload, 1) := dk_46 (dk_at dksX8_where_1 10 rfl rfl)
theorem dX8_where_35 : decode cX8_where 35 = .ok (.if_icmp .ge 107, 3) := dk_162 0 107 (dk_at dksX8_where_1 11 rfl rfl)
theorem dX8_where_38 : decode cX8_where 38 = .ok (.aload_n 0, 1) := dk_42 (dk_at dksX8_where_1 14 rfl rfl)
theorem dX8_where_39 : decode cX8_where 39 = .ok (.getfield 9, 3) := dk_180 0 9 (dk_at dksX8_where_1 15 rfl rfl)
theorem dX8_where_42 : decode cX8_where 42 = .ok (.bipush 123, 2) := dk_16 123 (dk_at dksX8_where_1 18 rfl rfl)
theorem dX8_where_44 : decode cX8_where 44 = .ok (.iaload, 1) := dk_46 (dk_at dksX8_where_1 20 rfl rfl)
theorem dX8_where_45 : decode cX8_where 45 = .ok (.iconst 1, 1) := dk_4 (dk_at dksX8_where_1 21 rfl rfl)
theorem dX8_where_46 : decode cX8_where 46 = .ok (.if_icmp .eq 20, 3) := dk_159 0 20 (dk_at dksX8_where_2 0 rfl rfl)
theorem dX8_where_49 : decode cX8_where 49 = .ok (.aload_n 0, 1) := dk_42 (dk_at dksX8_where_2 3 rfl rfl)
theorem dX8_where_50 : decode cX8_where 50 = .ok (.getfield 9, 3) := dk_180 0 9 (dk_at dksX8_where_2 4 rfl rfl)
theorem dX8_where_53 : decode cX8_where 53 = .ok (.iload_n 2, 1) := dk_28 (dk_at dksX8_where_2 7 rfl rfl)
theorem dX8_where_54 : decode cX8_where 54 = .ok (.iconst 2, 1) := dk_5 (dk_at dksX8_where_2 8 rfl rfl)
theorem dX8_where_55 : decode cX8_where 55 = .ok (.iadd, 1) := dk_96 (dk_at dksX8_where_2 9 rfl rfl)
theorem dX8_where_56 : decode cX8_where 56 = .ok (.iaload, 1) := dk_46 (dk_at dksX8_where_2 10 rfl rfl)
theorem dX8_where_57 : decode cX8_where 57 = .ok (.iload 5, 2) := dk_21 5 (dk_at dksX8_where_2 11 rfl rfl)
theorem dX8_where_59 : decode cX8_where 59 = .ok (.ishr, 1) := dk_122 (dk_at dksX8_where_2 13 rfl rfl)
theorem dX8_where_60 : decode cX8_where 60 = .ok (.iconst 1, 1) := dk_4 (dk_at dksX8_where_2 14 rfl rfl)
theorem dX8_where_61 : decode cX8_where 61 = .ok (.iand, 1) := dk_126 (dk_at dksX8_where_2 15 rfl rfl)
theorem dX8_where_62 : decode cX8_where 62 = .ok (.iconst 1, 1) := dk_4 (dk_at dksX8_where_2 16 rfl rfl)
theorem dX8_where_63 : decode cX8_where 63 = .ok (.if_icmp .ne 7, 3) := dk_160 0 7 (dk_at dksX8_where_2 17 rfl rfl)
theorem dX8_where_66 : decode cX8_where 66 = .ok (.iconst 1, 1) := dk_4 (dk_at dksX8_where_2 20 rfl rfl)
theorem dX8_where_67 : decode cX8_where 67 = .ok (.goto 4, 3) := dk_167 0 4 (dk_at dksX8_where_2 21 rfl rfl)
theorem dX8_where_70 : decode cX8_where 70 = .ok (.iconst 0, 1) := dk_3 (dk_at dksX8_where_3 0 rfl rfl)
theorem dX8_where_71 : decode cX8_where 71 = .ok (.istore 6, 2) := dk_54 6 (dk_at dksX8_where_3 1 rfl rfl)
theorem dX8_where_73 : decode cX8_where 73 = .ok (.iload 5, 2) := dk_21 5 (dk_at dksX8_where_3 3 rfl rfl)
theorem dX8_where_75 : decode cX8_where 75 = .ok (.aload_n 0, 1) := dk_42 (dk_at dksX8_where_3 5 rfl rfl)
theorem dX8_where_76 : decode cX8_where 76 = .ok (.getfield 9, 3) := dk_180 0 9 (dk_at dksX8_where_3 6 rfl rfl)
theorem dX8_where_79 : decode cX8_where 79 = .ok (.iload_n 2, 1) := dk_28 (dk_at dksX8_where_3 9 rfl rfl)
theorem dX8_where_80 : decode cX8_where 80 = .ok (.iconst 1, 1) := dk_4 (dk_at dksX8_where_3 10 rfl rfl)
theorem dX8_where_81 : decode cX8_where 81 = .ok (.iadd, 1) := dk_96 (dk_at dksX8_where_3 11 rfl rfl)
theorem dX8_where_82 : decode cX8_where 82 = .ok (.iaload, 1) := dk_46 (dk_at dksX8_where_3 12 rfl rfl)
theorem dX8_where_83 : decode cX8_where 83 = .ok (.if_icmp .eq 53, 3) := dk_159 0 53 (dk_at dksX8_where_3 13 rfl rfl)
theorem dX8_where_86 : decode cX8_where 86 = .ok (.iload 6, 2) := dk_21 6 (dk_at dksX8_where_3 16 rfl rfl)
theorem dX8_where_88 : decode cX8_where 88 = .ok (.ifCond .eq 48, 3) := dk_153 0 48 (dk_at dksX8_where_3 18 rfl rfl)
theorem dX8_where_91 : decode cX8_where 91 = .ok (.aload_n 0, 1) := dk_42 (dk_at dksX8_where_3 21 rfl rfl)
theorem dX8_where_92 : decode cX8_where 92 = .ok (.getfield 43, 3) := dk_180 0 43 (dk_at dksX8_where_4 0 rfl rfl)
theorem dX8_where_95 : decode cX8_where 95 = .ok (.iload 5, 2) := dk_21 5 (dk_at dksX8_where_4 3 rfl rfl)
theorem dX8_where_97 : decode cX8_where 97 = .ok (.iaload, 1) := dk_46 (dk_at dksX8_where_4 5 rfl rfl)
theorem dX8_where_98 : decode cX8_where 98 = .ok (.aload_n 0, 1) := dk_42 (dk_at dksX8_where_4 6 rfl rfl)
theorem dX8_where_99 : decode cX8_where 99 = .ok (.getfield 9, 3) := dk_180 0 9 (dk_at dksX8_where_4 7 rfl rfl)
theorem dX8_where_102 : decode cX8_where 102 = .ok (.iload_n 2, 1) := dk_28 (dk_at dksX8_where_4 10 rfl rfl)
theorem dX8_where_103 : decode cX8_where 103 = .ok (.iconst 3, 1) := dk_6 (dk_at dksX8_where_4 11 rfl rfl)
theorem dX8_where_104 : decode cX8_where 104 = .ok (.iadd, 1) := dk_96 (dk_at dksX8_where_4 12 rfl rfl)
theorem dX8_where_105 : decode cX8_where 105 = .ok (.iaload, 1) := dk_46 (dk_at dksX8_where_4 13 rfl rfl)
theorem dX8_where_106 : decode cX8_where 106 = .ok (.iadd, 1) := dk_96 (dk_at dksX8_where_4 14 rfl rfl)
theorem dX8_where_107 : decode cX8_where 107 = .ok (.iload 4, 2) := dk_21 4 (dk_at dksX8_where_4 15 rfl rfl)
theorem dX8_where_109 : decode cX8_where 109 = .ok (.if_icmp .lt 6, 3) := dk_161 0 6 (dk_at dksX8_where_4 17 rfl rfl)
theorem dX8_where_112 : decode cX8_where 112 = .ok (.goto 24, 3) := dk_167 0 24 (dk_at dksX8_where_4 20 rfl rfl)
theorem dX8_where_115 : decode cX8_where 115 = .ok (.aload_n 0, 1) := dk_42 (dk_at dksX8_where_4 23 rfl rfl)
theorem dX8_where_116 : decode cX8_where 116 = .ok (.getfield 43, 3) := dk_180 0 43 (dk_at dksX8_where_5 0 rfl rfl)
theorem dX8_where_119 : decode cX8_where 119 = .ok (.iload 5, 2) := dk_21 5 (dk_at dksX8_where_5 3 rfl rfl)
theorem dX8_where_121 : decode cX8_where 121 = .ok (.iaload, 1) := dk_46 (dk_at dksX8_where_5 5 rfl rfl)
theorem dX8_where_122 : decode cX8_where 122 = .ok (.aload_n 0, 1) := dk_42 (dk_at dksX8_where_5 6 rfl rfl)
theorem dX8_where_123 : decode cX8_where 123 = .ok (.getfield 9, 3) := dk_180 0 9 (dk_at dksX8_where_5 7 rfl rfl)
theorem dX8_where_126 : decode cX8_where 126 = .ok (.iload_n 2, 1) := dk_28 (dk_at dksX8_where_5 10 rfl rfl)
theorem dX8_where_127 : decode cX8_where 127 = .ok (.iconst 3, 1) := dk_6 (dk_at dksX8_where_5 11 rfl rfl)
theorem dX8_where_128 : decode cX8_where 128 = .ok (.iadd, 1) := dk_96 (dk_at dksX8_where_5 12 rfl rfl)
theorem dX8_where_129 : decode cX8_where 129 = .ok (.iaload, 1) := dk_46 (dk_at dksX8_where_5 13 rfl rfl)
theorem dX8_where_130 : decode cX8_where 130 = .ok (.iadd, 1) := dk_96 (dk_at dksX8_where_5 14 rfl rfl)
theorem dX8_where_131 : decode cX8_where 131 = .ok (.istore 4, 2) := dk_54 4 (dk_at dksX8_where_5 15 rfl rfl)
theorem dX8_where_133 : decode cX8_where 133 = .ok (.iload 5, 2) := dk_21 5 (dk_at dksX8_where_5 17 rfl rfl)
theorem dX8_where_135 : decode cX8_where 135 = .ok (.istore_n 3, 1) := dk_62 (dk_at dksX8_where_5 19 rfl rfl)
theorem dX8_where_136 : decode cX8_where 136 = .ok (.iinc 5 1, 3) := dk_132 5 1 (dk_at dksX8_where_5 20 rfl rfl)
theorem dX8_where_139 : decode cX8_where 139 = .ok (.goto (-112), 3) := dk_167 255 144 (dk_at dksX8_where_6 0 rfl rfl)
theorem dX8_where_142 : decode cX8_where 142 = .ok (.iload_n 3, 1) := dk_29 (dk_at dksX8_where_6 3 rfl rfl)
theorem dX8_where_143 : decode cX8_where 143 = .ok (.ireturn, 1) := dk_172 (dk_at dksX8_where_6 4 rfl rfl)
abbrev cX8_price : ByteArray := prog_29_method_49_code
def yX8_price : MethodName := ⟨RX8, "price", "(I)I"⟩
def dkwX8_price_1 : List UInt8 := [167, 0, 8, 42, 4, 182, 0, 83, 172]
abbrev dktX8_price_1 : List UInt8 := dkwX8_price_1 ++ []
def dkwX8_price_0 : List UInt8 := [42, 3, 181, 0, 76, 42, 27, 182, 0, 91, 153, 0, 15, 42, 180, 0, 9, 16, 12, 27, 96, 46]
abbrev dktX8_price_0 : List UInt8 := dkwX8_price_0 ++ dktX8_price_1
theorem dksX8_price_0 : cX8_price.data.toList.drop 0 = dktX8_price_0 := by decide +kernel
theorem dksX8_price_1 : cX8_price.data.toList.drop 22 = dktX8_price_1 := dk_seg dksX8_price_0 22 rfl rfl
theorem dX8_price_0 : decode cX8_price 0 = .ok (.aload_n 0, 1) := dk_42 (dk_at dksX8_price_0 0 rfl rfl)
theorem dX8_price_1 : decode cX8_price 1 = .ok (.iconst 0, 1) := dk_3 (dk_at dksX8_price_0 1 rfl rfl)
theorem dX8_price_2 : decode cX8_price 2 = .ok (.putfield 76, 3) := dk_181 0 76 (dk_at dksX8_price_0 2 rfl rfl)
theorem dX8_price_5 : decode cX8_price 5 = .ok (.aload_n 0, 1) := dk_42 (dk_at dksX8_price_0 5 rfl rfl)
theorem dX8_price_6 : decode cX8_price 6 = .ok (.iload_n 1, 1) := dk_27 (dk_at dksX8_price_0 6 rfl rfl)
theorem dX8_price_7 : decode cX8_price 7 = .ok (.invokevirtual 91, 3) := dk_182 0 91 (dk_at dksX8_price_0 7 rfl rfl)
theorem dX8_price_10 : decode cX8_price 10 = .ok (.ifCond .eq 15, 3) := dk_153 0 15 (dk_at dksX8_price_0 10 rfl rfl)
theorem dX8_price_13 : decode cX8_price 13 = .ok (.aload_n 0, 1) := dk_42 (dk_at dksX8_price_0 13 rfl rfl)
theorem dX8_price_14 : decode cX8_price 14 = .ok (.getfield 9, 3) := dk_180 0 9 (dk_at dksX8_price_0 14 rfl rfl)
theorem dX8_price_17 : decode cX8_price 17 = .ok (.bipush 12, 2) := dk_16 12 (dk_at dksX8_price_0 17 rfl rfl)
theorem dX8_price_19 : decode cX8_price 19 = .ok (.iload_n 1, 1) := dk_27 (dk_at dksX8_price_0 19 rfl rfl)
theorem dX8_price_20 : decode cX8_price 20 = .ok (.iadd, 1) := dk_96 (dk_at dksX8_price_0 20 rfl rfl)
theorem dX8_price_21 : decode cX8_price 21 = .ok (.iaload, 1) := dk_46 (dk_at dksX8_price_0 21 rfl rfl)
theorem dX8_price_22 : decode cX8_price 22 = .ok (.goto 8, 3) := dk_167 0 8 (dk_at dksX8_price_1 0 rfl rfl)
theorem dX8_price_25 : decode cX8_price 25 = .ok (.aload_n 0, 1) := dk_42 (dk_at dksX8_price_1 3 rfl rfl)
theorem dX8_price_26 : decode cX8_price 26 = .ok (.iconst 1, 1) := dk_4 (dk_at dksX8_price_1 4 rfl rfl)
theorem dX8_price_27 : decode cX8_price 27 = .ok (.invokevirtual 83, 3) := dk_182 0 83 (dk_at dksX8_price_1 5 rfl rfl)
theorem dX8_price_30 : decode cX8_price 30 = .ok (.ireturn, 1) := dk_172 (dk_at dksX8_price_1 8 rfl rfl)
abbrev cX8_board : ByteArray := prog_29_method_52_code
def yX8_board : MethodName := ⟨RX8, "board", "(II)I"⟩
def dkwX8_board_1 : List UInt8 := [182, 1, 55, 167, 0, 8, 42, 4, 182, 0, 83, 172]
abbrev dktX8_board_1 : List UInt8 := dkwX8_board_1 ++ []
def dkwX8_board_0 : List UInt8 := [42, 3, 181, 0, 76, 42, 27, 182, 0, 91, 153, 0, 20, 42, 28, 182, 1, 52, 153, 0, 12, 42, 27, 28]
abbrev dktX8_board_0 : List UInt8 := dkwX8_board_0 ++ dktX8_board_1
theorem dksX8_board_0 : cX8_board.data.toList.drop 0 = dktX8_board_0 := by decide +kernel
theorem dksX8_board_1 : cX8_board.data.toList.drop 24 = dktX8_board_1 := dk_seg dksX8_board_0 24 rfl rfl
theorem dX8_board_0 : decode cX8_board 0 = .ok (.aload_n 0, 1) := dk_42 (dk_at dksX8_board_0 0 rfl rfl)
theorem dX8_board_1 : decode cX8_board 1 = .ok (.iconst 0, 1) := dk_3 (dk_at dksX8_board_0 1 rfl rfl)
theorem dX8_board_2 : decode cX8_board 2 = .ok (.putfield 76, 3) := dk_181 0 76 (dk_at dksX8_board_0 2 rfl rfl)
theorem dX8_board_5 : decode cX8_board 5 = .ok (.aload_n 0, 1) := dk_42 (dk_at dksX8_board_0 5 rfl rfl)
theorem dX8_board_6 : decode cX8_board 6 = .ok (.iload_n 1, 1) := dk_27 (dk_at dksX8_board_0 6 rfl rfl)
theorem dX8_board_7 : decode cX8_board 7 = .ok (.invokevirtual 91, 3) := dk_182 0 91 (dk_at dksX8_board_0 7 rfl rfl)
theorem dX8_board_10 : decode cX8_board 10 = .ok (.ifCond .eq 20, 3) := dk_153 0 20 (dk_at dksX8_board_0 10 rfl rfl)
theorem dX8_board_13 : decode cX8_board 13 = .ok (.aload_n 0, 1) := dk_42 (dk_at dksX8_board_0 13 rfl rfl)
theorem dX8_board_14 : decode cX8_board 14 = .ok (.iload_n 2, 1) := dk_28 (dk_at dksX8_board_0 14 rfl rfl)
theorem dX8_board_15 : decode cX8_board 15 = .ok (.invokevirtual 308, 3) := dk_182 1 52 (dk_at dksX8_board_0 15 rfl rfl)
theorem dX8_board_18 : decode cX8_board 18 = .ok (.ifCond .eq 12, 3) := dk_153 0 12 (dk_at dksX8_board_0 18 rfl rfl)
theorem dX8_board_21 : decode cX8_board 21 = .ok (.aload_n 0, 1) := dk_42 (dk_at dksX8_board_0 21 rfl rfl)
theorem dX8_board_22 : decode cX8_board 22 = .ok (.iload_n 1, 1) := dk_27 (dk_at dksX8_board_0 22 rfl rfl)
theorem dX8_board_23 : decode cX8_board 23 = .ok (.iload_n 2, 1) := dk_28 (dk_at dksX8_board_0 23 rfl rfl)
theorem dX8_board_24 : decode cX8_board 24 = .ok (.invokevirtual 311, 3) := dk_182 1 55 (dk_at dksX8_board_1 0 rfl rfl)
theorem dX8_board_27 : decode cX8_board 27 = .ok (.goto 8, 3) := dk_167 0 8 (dk_at dksX8_board_1 3 rfl rfl)
theorem dX8_board_30 : decode cX8_board 30 = .ok (.aload_n 0, 1) := dk_42 (dk_at dksX8_board_1 6 rfl rfl)
theorem dX8_board_31 : decode cX8_board 31 = .ok (.iconst 1, 1) := dk_4 (dk_at dksX8_board_1 7 rfl rfl)
theorem dX8_board_32 : decode cX8_board 32 = .ok (.invokevirtual 83, 3) := dk_182 0 83 (dk_at dksX8_board_1 8 rfl rfl)
theorem dX8_board_35 : decode cX8_board 35 = .ok (.ireturn, 1) := dk_172 (dk_at dksX8_board_1 11 rfl rfl)
abbrev cX8_isBoard : ByteArray := prog_29_method_50_code
def yX8_isBoard : MethodName := ⟨RX8, "isBoard", "(I)Z"⟩
def dkwX8_isBoard_1 : List UInt8 := [100, 133, 184, 0, 79, 172]
abbrev dktX8_isBoard_1 : List UInt8 := dkwX8_isBoard_1 ++ []
def dkwX8_isBoard_0 : List UInt8 := [27, 133, 3, 42, 180, 0, 9, 5, 46, 17, 1, 0, 100, 184, 1, 5, 133, 42, 180, 0, 9, 5, 46, 4]
abbrev dktX8_isBoard_0 : List UInt8 := dkwX8_isBoard_0 ++ dktX8_isBoard_1
theorem dksX8_isBoard_0 : cX8_isBoard.data.toList.drop 0 = dktX8_isBoard_0 := by decide +kernel
theorem dksX8_isBoard_1 : cX8_isBoard.data.toList.drop 24 = dktX8_isBoard_1 := dk_seg dksX8_isBoard_0 24 rfl rfl
theorem dX8_isBoard_0 : decode cX8_isBoard 0 = .ok (.iload_n 1, 1) := dk_27 (dk_at dksX8_isBoard_0 0 rfl rfl)
theorem dX8_isBoard_1 : decode cX8_isBoard 1 = .ok (.i2l, 1) := dk_133 (dk_at dksX8_isBoard_0 1 rfl rfl)
theorem dX8_isBoard_2 : decode cX8_isBoard 2 = .ok (.iconst 0, 1) := dk_3 (dk_at dksX8_isBoard_0 2 rfl rfl)
theorem dX8_isBoard_3 : decode cX8_isBoard 3 = .ok (.aload_n 0, 1) := dk_42 (dk_at dksX8_isBoard_0 3 rfl rfl)
theorem dX8_isBoard_4 : decode cX8_isBoard 4 = .ok (.getfield 9, 3) := dk_180 0 9 (dk_at dksX8_isBoard_0 4 rfl rfl)
theorem dX8_isBoard_7 : decode cX8_isBoard 7 = .ok (.iconst 2, 1) := dk_5 (dk_at dksX8_isBoard_0 7 rfl rfl)
theorem dX8_isBoard_8 : decode cX8_isBoard 8 = .ok (.iaload, 1) := dk_46 (dk_at dksX8_isBoard_0 8 rfl rfl)
theorem dX8_isBoard_9 : decode cX8_isBoard 9 = .ok (.sipush 256, 3) := dk_17 1 0 (dk_at dksX8_isBoard_0 9 rfl rfl)
theorem dX8_isBoard_12 : decode cX8_isBoard 12 = .ok (.isub, 1) := dk_100 (dk_at dksX8_isBoard_0 12 rfl rfl)
theorem dX8_isBoard_13 : decode cX8_isBoard 13 = .ok (.invokestatic 261, 3) := dk_184 1 5 (dk_at dksX8_isBoard_0 13 rfl rfl)
theorem dX8_isBoard_16 : decode cX8_isBoard 16 = .ok (.i2l, 1) := dk_133 (dk_at dksX8_isBoard_0 16 rfl rfl)
theorem dX8_isBoard_17 : decode cX8_isBoard 17 = .ok (.aload_n 0, 1) := dk_42 (dk_at dksX8_isBoard_0 17 rfl rfl)
theorem dX8_isBoard_18 : decode cX8_isBoard 18 = .ok (.getfield 9, 3) := dk_180 0 9 (dk_at dksX8_isBoard_0 18 rfl rfl)
theorem dX8_isBoard_21 : decode cX8_isBoard 21 = .ok (.iconst 2, 1) := dk_5 (dk_at dksX8_isBoard_0 21 rfl rfl)
theorem dX8_isBoard_22 : decode cX8_isBoard 22 = .ok (.iaload, 1) := dk_46 (dk_at dksX8_isBoard_0 22 rfl rfl)
theorem dX8_isBoard_23 : decode cX8_isBoard 23 = .ok (.iconst 1, 1) := dk_4 (dk_at dksX8_isBoard_0 23 rfl rfl)
theorem dX8_isBoard_24 : decode cX8_isBoard 24 = .ok (.isub, 1) := dk_100 (dk_at dksX8_isBoard_1 0 rfl rfl)
theorem dX8_isBoard_25 : decode cX8_isBoard 25 = .ok (.i2l, 1) := dk_133 (dk_at dksX8_isBoard_1 1 rfl rfl)
theorem dX8_isBoard_26 : decode cX8_isBoard 26 = .ok (.invokestatic 79, 3) := dk_184 0 79 (dk_at dksX8_isBoard_1 2 rfl rfl)
theorem dX8_isBoard_29 : decode cX8_isBoard 29 = .ok (.ireturn, 1) := dk_172 (dk_at dksX8_isBoard_1 5 rfl rfl)
abbrev cX8_boardOf : ByteArray := prog_29_method_51_code
def yX8_boardOf : MethodName := ⟨RX8, "boardOf", "(II)I"⟩
def dkwX8_boardOf_0 : List UInt8 := [42, 180, 0, 9, 17, 7, 93, 7, 28, 17, 1, 0, 112, 104, 96, 27, 96, 46, 172]
abbrev dktX8_boardOf_0 : List UInt8 := dkwX8_boardOf_0 ++ []
theorem dksX8_boardOf_0 : cX8_boardOf.data.toList.drop 0 = dktX8_boardOf_0 := by decide +kernel
theorem dX8_boardOf_0 : decode cX8_boardOf 0 = .ok (.aload_n 0, 1) := dk_42 (dk_at dksX8_boardOf_0 0 rfl rfl)
theorem dX8_boardOf_1 : decode cX8_boardOf 1 = .ok (.getfield 9, 3) := dk_180 0 9 (dk_at dksX8_boardOf_0 1 rfl rfl)
theorem dX8_boardOf_4 : decode cX8_boardOf 4 = .ok (.sipush 1885, 3) := dk_17 7 93 (dk_at dksX8_boardOf_0 4 rfl rfl)
theorem dX8_boardOf_7 : decode cX8_boardOf 7 = .ok (.iconst 4, 1) := dk_7 (dk_at dksX8_boardOf_0 7 rfl rfl)
theorem dX8_boardOf_8 : decode cX8_boardOf 8 = .ok (.iload_n 2, 1) := dk_28 (dk_at dksX8_boardOf_0 8 rfl rfl)
theorem dX8_boardOf_9 : decode cX8_boardOf 9 = .ok (.sipush 256, 3) := dk_17 1 0 (dk_at dksX8_boardOf_0 9 rfl rfl)
theorem dX8_boardOf_12 : decode cX8_boardOf 12 = .ok (.irem, 1) := dk_112 (dk_at dksX8_boardOf_0 12 rfl rfl)
theorem dX8_boardOf_13 : decode cX8_boardOf 13 = .ok (.imul, 1) := dk_104 (dk_at dksX8_boardOf_0 13 rfl rfl)
theorem dX8_boardOf_14 : decode cX8_boardOf 14 = .ok (.iadd, 1) := dk_96 (dk_at dksX8_boardOf_0 14 rfl rfl)
theorem dX8_boardOf_15 : decode cX8_boardOf 15 = .ok (.iload_n 1, 1) := dk_27 (dk_at dksX8_boardOf_0 15 rfl rfl)
theorem dX8_boardOf_16 : decode cX8_boardOf 16 = .ok (.iadd, 1) := dk_96 (dk_at dksX8_boardOf_0 16 rfl rfl)
theorem dX8_boardOf_17 : decode cX8_boardOf 17 = .ok (.iaload, 1) := dk_46 (dk_at dksX8_boardOf_0 17 rfl rfl)
theorem dX8_boardOf_18 : decode cX8_boardOf 18 = .ok (.ireturn, 1) := dk_172 (dk_at dksX8_boardOf_0 18 rfl rfl)
abbrev cX8_would : ByteArray := prog_29_method_53_code
def yX8_would : MethodName := ⟨RX8, "would", "(I)I"⟩
def dkwX8_would_1 : List UInt8 := [42, 27, 42, 180, 0, 9, 5, 46, 182, 1, 39, 172]
abbrev dktX8_would_1 : List UInt8 := dkwX8_would_1 ++ []
def dkwX8_would_0 : List UInt8 := [42, 3, 181, 0, 76, 42, 27, 182, 0, 91, 154, 0, 9, 42, 4, 182, 0, 83, 172, 42, 3, 181, 1, 1]
abbrev dktX8_would_0 : List UInt8 := dkwX8_would_0 ++ dktX8_would_1
theorem dksX8_would_0 : cX8_would.data.toList.drop 0 = dktX8_would_0 := by decide +kernel
theorem dksX8_would_1 : cX8_would.data.toList.drop 24 = dktX8_would_1 := dk_seg dksX8_would_0 24 rfl rfl
theorem dX8_would_0 : decode cX8_would 0 = .ok (.aload_n 0, 1) := dk_42 (dk_at dksX8_would_0 0 rfl rfl)
theorem dX8_would_1 : decode cX8_would 1 = .ok (.iconst 0, 1) := dk_3 (dk_at dksX8_would_0 1 rfl rfl)
theorem dX8_would_2 : decode cX8_would 2 = .ok (.putfield 76, 3) := dk_181 0 76 (dk_at dksX8_would_0 2 rfl rfl)
theorem dX8_would_5 : decode cX8_would 5 = .ok (.aload_n 0, 1) := dk_42 (dk_at dksX8_would_0 5 rfl rfl)
theorem dX8_would_6 : decode cX8_would 6 = .ok (.iload_n 1, 1) := dk_27 (dk_at dksX8_would_0 6 rfl rfl)
theorem dX8_would_7 : decode cX8_would 7 = .ok (.invokevirtual 91, 3) := dk_182 0 91 (dk_at dksX8_would_0 7 rfl rfl)
theorem dX8_would_10 : decode cX8_would 10 = .ok (.ifCond .ne 9, 3) := dk_154 0 9 (dk_at dksX8_would_0 10 rfl rfl)
theorem dX8_would_13 : decode cX8_would 13 = .ok (.aload_n 0, 1) := dk_42 (dk_at dksX8_would_0 13 rfl rfl)
theorem dX8_would_14 : decode cX8_would 14 = .ok (.iconst 1, 1) := dk_4 (dk_at dksX8_would_0 14 rfl rfl)
theorem dX8_would_15 : decode cX8_would 15 = .ok (.invokevirtual 83, 3) := dk_182 0 83 (dk_at dksX8_would_0 15 rfl rfl)
theorem dX8_would_18 : decode cX8_would 18 = .ok (.ireturn, 1) := dk_172 (dk_at dksX8_would_0 18 rfl rfl)
theorem dX8_would_19 : decode cX8_would 19 = .ok (.aload_n 0, 1) := dk_42 (dk_at dksX8_would_0 19 rfl rfl)
theorem dX8_would_20 : decode cX8_would 20 = .ok (.iconst 0, 1) := dk_3 (dk_at dksX8_would_0 20 rfl rfl)
theorem dX8_would_21 : decode cX8_would 21 = .ok (.putfield 257, 3) := dk_181 1 1 (dk_at dksX8_would_0 21 rfl rfl)
theorem dX8_would_24 : decode cX8_would 24 = .ok (.aload_n 0, 1) := dk_42 (dk_at dksX8_would_1 0 rfl rfl)
theorem dX8_would_25 : decode cX8_would 25 = .ok (.iload_n 1, 1) := dk_27 (dk_at dksX8_would_1 1 rfl rfl)
theorem dX8_would_26 : decode cX8_would 26 = .ok (.aload_n 0, 1) := dk_42 (dk_at dksX8_would_1 2 rfl rfl)
theorem dX8_would_27 : decode cX8_would 27 = .ok (.getfield 9, 3) := dk_180 0 9 (dk_at dksX8_would_1 3 rfl rfl)
theorem dX8_would_30 : decode cX8_would 30 = .ok (.iconst 2, 1) := dk_5 (dk_at dksX8_would_1 6 rfl rfl)
theorem dX8_would_31 : decode cX8_would 31 = .ok (.iaload, 1) := dk_46 (dk_at dksX8_would_1 7 rfl rfl)
theorem dX8_would_32 : decode cX8_would 32 = .ok (.invokevirtual 295, 3) := dk_182 1 39 (dk_at dksX8_would_1 8 rfl rfl)
theorem dX8_would_35 : decode cX8_would 35 = .ok (.ireturn, 1) := dk_172 (dk_at dksX8_would_1 11 rfl rfl)
abbrev cX8_of : ByteArray := prog_29_method_54_code
def yX8_of : MethodName := ⟨RX8, "of", "(II)J"⟩
def dkwX8_of_3 : List UInt8 := [104, 27, 96, 47, 173]
abbrev dktX8_of_3 : List UInt8 := dkwX8_of_3 ++ []
def dkwX8_of_2 : List UInt8 := [160, 0, 18, 42, 27, 42, 180, 0, 9, 5, 46, 182, 1, 19, 133, 167, 0, 13, 42, 180, 0, 16, 7, 28]
abbrev dktX8_of_2 : List UInt8 := dkwX8_of_2 ++ dktX8_of_3
def dkwX8_of_1 : List UInt8 := [20, 1, 58, 184, 0, 79, 154, 0, 10, 42, 5, 182, 0, 83, 133, 173, 42, 3, 181, 1, 1, 28, 5]
abbrev dktX8_of_1 : List UInt8 := dkwX8_of_1 ++ dktX8_of_2
def dkwX8_of_0 : List UInt8 := [42, 3, 181, 0, 76, 42, 27, 182, 0, 91, 154, 0, 10, 42, 4, 182, 0, 83, 133, 173, 28, 133, 9]
abbrev dktX8_of_0 : List UInt8 := dkwX8_of_0 ++ dktX8_of_1
theorem dksX8_of_0 : cX8_of.data.toList.drop 0 = dktX8_of_0 := by decide +kernel
theorem dksX8_of_1 : cX8_of.data.toList.drop 23 = dktX8_of_1 := dk_seg dksX8_of_0 23 rfl rfl
theorem dksX8_of_2 : cX8_of.data.toList.drop 46 = dktX8_of_2 := dk_seg dksX8_of_1 23 rfl rfl
theorem dksX8_of_3 : cX8_of.data.toList.drop 70 = dktX8_of_3 := dk_seg dksX8_of_2 24 rfl rfl
theorem dX8_of_0 : decode cX8_of 0 = .ok (.aload_n 0, 1) := dk_42 (dk_at dksX8_of_0 0 rfl rfl)
theorem dX8_of_1 : decode cX8_of 1 = .ok (.iconst 0, 1) := dk_3 (dk_at dksX8_of_0 1 rfl rfl)
theorem dX8_of_2 : decode cX8_of 2 = .ok (.putfield 76, 3) := dk_181 0 76 (dk_at dksX8_of_0 2 rfl rfl)
theorem dX8_of_5 : decode cX8_of 5 = .ok (.aload_n 0, 1) := dk_42 (dk_at dksX8_of_0 5 rfl rfl)
theorem dX8_of_6 : decode cX8_of 6 = .ok (.iload_n 1, 1) := dk_27 (dk_at dksX8_of_0 6 rfl rfl)
theorem dX8_of_7 : decode cX8_of 7 = .ok (.invokevirtual 91, 3) := dk_182 0 91 (dk_at dksX8_of_0 7 rfl rfl)
theorem dX8_of_10 : decode cX8_of 10 = .ok (.ifCond .ne 10, 3) := dk_154 0 10 (dk_at dksX8_of_0 10 rfl rfl)
theorem dX8_of_13 : decode cX8_of 13 = .ok (.aload_n 0, 1) := dk_42 (dk_at dksX8_of_0 13 rfl rfl)
theorem dX8_of_14 : decode cX8_of 14 = .ok (.iconst 1, 1) := dk_4 (dk_at dksX8_of_0 14 rfl rfl)
theorem dX8_of_15 : decode cX8_of 15 = .ok (.invokevirtual 83, 3) := dk_182 0 83 (dk_at dksX8_of_0 15 rfl rfl)
theorem dX8_of_18 : decode cX8_of 18 = .ok (.i2l, 1) := dk_133 (dk_at dksX8_of_0 18 rfl rfl)
theorem dX8_of_19 : decode cX8_of 19 = .ok (.lreturn, 1) := dk_173 (dk_at dksX8_of_0 19 rfl rfl)
theorem dX8_of_20 : decode cX8_of 20 = .ok (.iload_n 2, 1) := dk_28 (dk_at dksX8_of_0 20 rfl rfl)
theorem dX8_of_21 : decode cX8_of 21 = .ok (.i2l, 1) := dk_133 (dk_at dksX8_of_0 21 rfl rfl)
theorem dX8_of_22 : decode cX8_of 22 = .ok (.lconst 0, 1) := dk_9 (dk_at dksX8_of_0 22 rfl rfl)
theorem dX8_of_23 : decode cX8_of 23 = .ok (.ldc2_w 314, 3) := dk_20 1 58 (dk_at dksX8_of_1 0 rfl rfl)
theorem dX8_of_26 : decode cX8_of 26 = .ok (.invokestatic 79, 3) := dk_184 0 79 (dk_at dksX8_of_1 3 rfl rfl)
theorem dX8_of_29 : decode cX8_of 29 = .ok (.ifCond .ne 10, 3) := dk_154 0 10 (dk_at dksX8_of_1 6 rfl rfl)
theorem dX8_of_32 : decode cX8_of 32 = .ok (.aload_n 0, 1) := dk_42 (dk_at dksX8_of_1 9 rfl rfl)
theorem dX8_of_33 : decode cX8_of 33 = .ok (.iconst 2, 1) := dk_5 (dk_at dksX8_of_1 10 rfl rfl)
theorem dX8_of_34 : decode cX8_of 34 = .ok (.invokevirtual 83, 3) := dk_182 0 83 (dk_at dksX8_of_1 11 rfl rfl)
theorem dX8_of_37 : decode cX8_of 37 = .ok (.i2l, 1) := dk_133 (dk_at dksX8_of_1 14 rfl rfl)
theorem dX8_of_38 : decode cX8_of 38 = .ok (.lreturn, 1) := dk_173 (dk_at dksX8_of_1 15 rfl rfl)
theorem dX8_of_39 : decode cX8_of 39 = .ok (.aload_n 0, 1) := dk_42 (dk_at dksX8_of_1 16 rfl rfl)
theorem dX8_of_40 : decode cX8_of 40 = .ok (.iconst 0, 1) := dk_3 (dk_at dksX8_of_1 17 rfl rfl)
theorem dX8_of_41 : decode cX8_of 41 = .ok (.putfield 257, 3) := dk_181 1 1 (dk_at dksX8_of_1 18 rfl rfl)
theorem dX8_of_44 : decode cX8_of 44 = .ok (.iload_n 2, 1) := dk_28 (dk_at dksX8_of_1 21 rfl rfl)
theorem dX8_of_45 : decode cX8_of 45 = .ok (.iconst 2, 1) := dk_5 (dk_at dksX8_of_1 22 rfl rfl)
theorem dX8_of_46 : decode cX8_of 46 = .ok (.if_icmp .ne 18, 3) := dk_160 0 18 (dk_at dksX8_of_2 0 rfl rfl)
theorem dX8_of_49 : decode cX8_of 49 = .ok (.aload_n 0, 1) := dk_42 (dk_at dksX8_of_2 3 rfl rfl)
theorem dX8_of_50 : decode cX8_of 50 = .ok (.iload_n 1, 1) := dk_27 (dk_at dksX8_of_2 4 rfl rfl)
theorem dX8_of_51 : decode cX8_of 51 = .ok (.aload_n 0, 1) := dk_42 (dk_at dksX8_of_2 5 rfl rfl)
theorem dX8_of_52 : decode cX8_of 52 = .ok (.getfield 9, 3) := dk_180 0 9 (dk_at dksX8_of_2 6 rfl rfl)
theorem dX8_of_55 : decode cX8_of 55 = .ok (.iconst 2, 1) := dk_5 (dk_at dksX8_of_2 9 rfl rfl)
theorem dX8_of_56 : decode cX8_of 56 = .ok (.iaload, 1) := dk_46 (dk_at dksX8_of_2 10 rfl rfl)
theorem dX8_of_57 : decode cX8_of 57 = .ok (.invokevirtual 275, 3) := dk_182 1 19 (dk_at dksX8_of_2 11 rfl rfl)
theorem dX8_of_60 : decode cX8_of 60 = .ok (.i2l, 1) := dk_133 (dk_at dksX8_of_2 14 rfl rfl)
theorem dX8_of_61 : decode cX8_of 61 = .ok (.goto 13, 3) := dk_167 0 13 (dk_at dksX8_of_2 15 rfl rfl)
theorem dX8_of_64 : decode cX8_of 64 = .ok (.aload_n 0, 1) := dk_42 (dk_at dksX8_of_2 18 rfl rfl)
theorem dX8_of_65 : decode cX8_of 65 = .ok (.getfield 16, 3) := dk_180 0 16 (dk_at dksX8_of_2 19 rfl rfl)
theorem dX8_of_68 : decode cX8_of 68 = .ok (.iconst 4, 1) := dk_7 (dk_at dksX8_of_2 22 rfl rfl)
theorem dX8_of_69 : decode cX8_of 69 = .ok (.iload_n 2, 1) := dk_28 (dk_at dksX8_of_2 23 rfl rfl)
theorem dX8_of_70 : decode cX8_of 70 = .ok (.imul, 1) := dk_104 (dk_at dksX8_of_3 0 rfl rfl)
theorem dX8_of_71 : decode cX8_of 71 = .ok (.iload_n 1, 1) := dk_27 (dk_at dksX8_of_3 1 rfl rfl)
theorem dX8_of_72 : decode cX8_of 72 = .ok (.iadd, 1) := dk_96 (dk_at dksX8_of_3 2 rfl rfl)
theorem dX8_of_73 : decode cX8_of 73 = .ok (.laload, 1) := dk_47 (dk_at dksX8_of_3 3 rfl rfl)
theorem dX8_of_74 : decode cX8_of 74 = .ok (.lreturn, 1) := dk_173 (dk_at dksX8_of_3 4 rfl rfl)
abbrev cX8_fills : ByteArray := prog_29_method_55_code
def yX8_fills : MethodName := ⟨RX8, "fills", "(I)I"⟩
def dkwX8_fills_1 : List UInt8 := [4, 182, 0, 83, 172, 42, 182, 1, 42, 42, 27, 182, 1, 45, 172]
abbrev dktX8_fills_1 : List UInt8 := dkwX8_fills_1 ++ []
def dkwX8_fills_0 : List UInt8 := [42, 3, 181, 0, 76, 27, 133, 9, 42, 180, 0, 9, 4, 46, 4, 100, 133, 184, 0, 79, 154, 0, 9, 42]
abbrev dktX8_fills_0 : List UInt8 := dkwX8_fills_0 ++ dktX8_fills_1
theorem dksX8_fills_0 : cX8_fills.data.toList.drop 0 = dktX8_fills_0 := by decide +kernel
theorem dksX8_fills_1 : cX8_fills.data.toList.drop 24 = dktX8_fills_1 := dk_seg dksX8_fills_0 24 rfl rfl
theorem dX8_fills_0 : decode cX8_fills 0 = .ok (.aload_n 0, 1) := dk_42 (dk_at dksX8_fills_0 0 rfl rfl)
theorem dX8_fills_1 : decode cX8_fills 1 = .ok (.iconst 0, 1) := dk_3 (dk_at dksX8_fills_0 1 rfl rfl)
theorem dX8_fills_2 : decode cX8_fills 2 = .ok (.putfield 76, 3) := dk_181 0 76 (dk_at dksX8_fills_0 2 rfl rfl)
theorem dX8_fills_5 : decode cX8_fills 5 = .ok (.iload_n 1, 1) := dk_27 (dk_at dksX8_fills_0 5 rfl rfl)
theorem dX8_fills_6 : decode cX8_fills 6 = .ok (.i2l, 1) := dk_133 (dk_at dksX8_fills_0 6 rfl rfl)
theorem dX8_fills_7 : decode cX8_fills 7 = .ok (.lconst 0, 1) := dk_9 (dk_at dksX8_fills_0 7 rfl rfl)
theorem dX8_fills_8 : decode cX8_fills 8 = .ok (.aload_n 0, 1) := dk_42 (dk_at dksX8_fills_0 8 rfl rfl)
theorem dX8_fills_9 : decode cX8_fills 9 = .ok (.getfield 9, 3) := dk_180 0 9 (dk_at dksX8_fills_0 9 rfl rfl)
theorem dX8_fills_12 : decode cX8_fills 12 = .ok (.iconst 1, 1) := dk_4 (dk_at dksX8_fills_0 12 rfl rfl)
theorem dX8_fills_13 : decode cX8_fills 13 = .ok (.iaload, 1) := dk_46 (dk_at dksX8_fills_0 13 rfl rfl)
theorem dX8_fills_14 : decode cX8_fills 14 = .ok (.iconst 1, 1) := dk_4 (dk_at dksX8_fills_0 14 rfl rfl)
theorem dX8_fills_15 : decode cX8_fills 15 = .ok (.isub, 1) := dk_100 (dk_at dksX8_fills_0 15 rfl rfl)
theorem dX8_fills_16 : decode cX8_fills 16 = .ok (.i2l, 1) := dk_133 (dk_at dksX8_fills_0 16 rfl rfl)
theorem dX8_fills_17 : decode cX8_fills 17 = .ok (.invokestatic 79, 3) := dk_184 0 79 (dk_at dksX8_fills_0 17 rfl rfl)
theorem dX8_fills_20 : decode cX8_fills 20 = .ok (.ifCond .ne 9, 3) := dk_154 0 9 (dk_at dksX8_fills_0 20 rfl rfl)
theorem dX8_fills_23 : decode cX8_fills 23 = .ok (.aload_n 0, 1) := dk_42 (dk_at dksX8_fills_0 23 rfl rfl)
theorem dX8_fills_24 : decode cX8_fills 24 = .ok (.iconst 1, 1) := dk_4 (dk_at dksX8_fills_1 0 rfl rfl)
theorem dX8_fills_25 : decode cX8_fills 25 = .ok (.invokevirtual 83, 3) := dk_182 0 83 (dk_at dksX8_fills_1 1 rfl rfl)
theorem dX8_fills_28 : decode cX8_fills 28 = .ok (.ireturn, 1) := dk_172 (dk_at dksX8_fills_1 4 rfl rfl)
theorem dX8_fills_29 : decode cX8_fills 29 = .ok (.aload_n 0, 1) := dk_42 (dk_at dksX8_fills_1 5 rfl rfl)
theorem dX8_fills_30 : decode cX8_fills 30 = .ok (.invokevirtual 298, 3) := dk_182 1 42 (dk_at dksX8_fills_1 6 rfl rfl)
theorem dX8_fills_33 : decode cX8_fills 33 = .ok (.aload_n 0, 1) := dk_42 (dk_at dksX8_fills_1 9 rfl rfl)
theorem dX8_fills_34 : decode cX8_fills 34 = .ok (.iload_n 1, 1) := dk_27 (dk_at dksX8_fills_1 10 rfl rfl)
theorem dX8_fills_35 : decode cX8_fills 35 = .ok (.invokevirtual 301, 3) := dk_182 1 45 (dk_at dksX8_fills_1 11 rfl rfl)
theorem dX8_fills_38 : decode cX8_fills 38 = .ok (.ireturn, 1) := dk_172 (dk_at dksX8_fills_1 14 rfl rfl)
abbrev cX8_round : ByteArray := prog_29_method_57_code
def yX8_round : MethodName := ⟨RX8, "round", "()I"⟩
def dkwX8_round_3 : List UInt8 := [28, 172, 132, 2, 1, 167, 255, 195, 2, 172]
abbrev dktX8_round_3 : List UInt8 := dkwX8_round_3 ++ []
def dkwX8_round_2 : List UInt8 := [27, 21, 4, 100, 27, 21, 4, 100, 28, 100, 182, 1, 60, 62, 132, 4, 1, 167, 255, 228, 29, 153, 0, 5]
abbrev dktX8_round_2 : List UInt8 := dkwX8_round_2 ++ dktX8_round_3
def dkwX8_round_1 : List UInt8 := [5, 28, 104, 100, 4, 96, 182, 1, 52, 62, 3, 54, 4, 21, 4, 28, 162, 0, 28, 29, 153, 0, 24, 42]
abbrev dktX8_round_1 : List UInt8 := dkwX8_round_1 ++ dktX8_round_2
def dkwX8_round_0 : List UInt8 := [42, 3, 181, 0, 76, 42, 180, 0, 9, 5, 46, 4, 100, 60, 4, 61, 28, 16, 100, 163, 0, 61, 42, 27]
abbrev dktX8_round_0 : List UInt8 := dkwX8_round_0 ++ dktX8_round_1
theorem dksX8_round_0 : cX8_round.data.toList.drop 0 = dktX8_round_0 := by decide +kernel
theorem dksX8_round_1 : cX8_round.data.toList.drop 24 = dktX8_round_1 := dk_seg dksX8_round_0 24 rfl rfl
theorem dksX8_round_2 : cX8_round.data.toList.drop 48 = dktX8_round_2 := dk_seg dksX8_round_1 24 rfl rfl
theorem dksX8_round_3 : cX8_round.data.toList.drop 72 = dktX8_round_3 := dk_seg dksX8_round_2 24 rfl rfl
theorem dX8_round_0 : decode cX8_round 0 = .ok (.aload_n 0, 1) := dk_42 (dk_at dksX8_round_0 0 rfl rfl)
theorem dX8_round_1 : decode cX8_round 1 = .ok (.iconst 0, 1) := dk_3 (dk_at dksX8_round_0 1 rfl rfl)
theorem dX8_round_2 : decode cX8_round 2 = .ok (.putfield 76, 3) := dk_181 0 76 (dk_at dksX8_round_0 2 rfl rfl)
theorem dX8_round_5 : decode cX8_round 5 = .ok (.aload_n 0, 1) := dk_42 (dk_at dksX8_round_0 5 rfl rfl)
theorem dX8_round_6 : decode cX8_round 6 = .ok (.getfield 9, 3) := dk_180 0 9 (dk_at dksX8_round_0 6 rfl rfl)
theorem dX8_round_9 : decode cX8_round 9 = .ok (.iconst 2, 1) := dk_5 (dk_at dksX8_round_0 9 rfl rfl)
theorem dX8_round_10 : decode cX8_round 10 = .ok (.iaload, 1) := dk_46 (dk_at dksX8_round_0 10 rfl rfl)
theorem dX8_round_11 : decode cX8_round 11 = .ok (.iconst 1, 1) := dk_4 (dk_at dksX8_round_0 11 rfl rfl)
theorem dX8_round_12 : decode cX8_round 12 = .ok (.isub, 1) := dk_100 (dk_at dksX8_round_0 12 rfl rfl)
theorem dX8_round_13 : decode cX8_round 13 = .ok (.istore_n 1, 1) := dk_60 (dk_at dksX8_round_0 13 rfl rfl)
theorem dX8_round_14 : decode cX8_round 14 = .ok (.iconst 1, 1) := dk_4 (dk_at dksX8_round_0 14 rfl rfl)
theorem dX8_round_15 : decode cX8_round 15 = .ok (.istore_n 2, 1) := dk_61 (dk_at dksX8_round_0 15 rfl rfl)
theorem dX8_round_16 : decode cX8_round 16 = .ok (.iload_n 2, 1) := dk_28 (dk_at dksX8_round_0 16 rfl rfl)
theorem dX8_round_17 : decode cX8_round 17 = .ok (.bipush 100, 2) := dk_16 100 (dk_at dksX8_round_0 17 rfl rfl)
theorem dX8_round_19 : decode cX8_round 19 = .ok (.if_icmp .gt 61, 3) := dk_163 0 61 (dk_at dksX8_round_0 19 rfl rfl)
theorem dX8_round_22 : decode cX8_round 22 = .ok (.aload_n 0, 1) := dk_42 (dk_at dksX8_round_0 22 rfl rfl)
theorem dX8_round_23 : decode cX8_round 23 = .ok (.iload_n 1, 1) := dk_27 (dk_at dksX8_round_0 23 rfl rfl)
theorem dX8_round_24 : decode cX8_round 24 = .ok (.iconst 2, 1) := dk_5 (dk_at dksX8_round_1 0 rfl rfl)
theorem dX8_round_25 : decode cX8_round 25 = .ok (.iload_n 2, 1) := dk_28 (dk_at dksX8_round_1 1 rfl rfl)
theorem dX8_round_26 : decode cX8_round 26 = .ok (.imul, 1) := dk_104 (dk_at dksX8_round_1 2 rfl rfl)
theorem dX8_round_27 : decode cX8_round 27 = .ok (.isub, 1) := dk_100 (dk_at dksX8_round_1 3 rfl rfl)
theorem dX8_round_28 : decode cX8_round 28 = .ok (.iconst 1, 1) := dk_4 (dk_at dksX8_round_1 4 rfl rfl)
theorem dX8_round_29 : decode cX8_round 29 = .ok (.iadd, 1) := dk_96 (dk_at dksX8_round_1 5 rfl rfl)
theorem dX8_round_30 : decode cX8_round 30 = .ok (.invokevirtual 308, 3) := dk_182 1 52 (dk_at dksX8_round_1 6 rfl rfl)
theorem dX8_round_33 : decode cX8_round 33 = .ok (.istore_n 3, 1) := dk_62 (dk_at dksX8_round_1 9 rfl rfl)
theorem dX8_round_34 : decode cX8_round 34 = .ok (.iconst 0, 1) := dk_3 (dk_at dksX8_round_1 10 rfl rfl)
theorem dX8_round_35 : decode cX8_round 35 = .ok (.istore 4, 2) := dk_54 4 (dk_at dksX8_round_1 11 rfl rfl)
theorem dX8_round_37 : decode cX8_round 37 = .ok (.iload 4, 2) := dk_21 4 (dk_at dksX8_round_1 13 rfl rfl)
theorem dX8_round_39 : decode cX8_round 39 = .ok (.iload_n 2, 1) := dk_28 (dk_at dksX8_round_1 15 rfl rfl)
theorem dX8_round_40 : decode cX8_round 40 = .ok (.if_icmp .ge 28, 3) := dk_162 0 28 (dk_at dksX8_round_1 16 rfl rfl)
theorem dX8_round_43 : decode cX8_round 43 = .ok (.iload_n 3, 1) := dk_29 (dk_at dksX8_round_1 19 rfl rfl)
theorem dX8_round_44 : decode cX8_round 44 = .ok (.ifCond .eq 24, 3) := dk_153 0 24 (dk_at dksX8_round_1 20 rfl rfl)
theorem dX8_round_47 : decode cX8_round 47 = .ok (.aload_n 0, 1) := dk_42 (dk_at dksX8_round_1 23 rfl rfl)
theorem dX8_round_48 : decode cX8_round 48 = .ok (.iload_n 1, 1) := dk_27 (dk_at dksX8_round_2 0 rfl rfl)
theorem dX8_round_49 : decode cX8_round 49 = .ok (.iload 4, 2) := dk_21 4 (dk_at dksX8_round_2 1 rfl rfl)
theorem dX8_round_51 : decode cX8_round 51 = .ok (.isub, 1) := dk_100 (dk_at dksX8_round_2 3 rfl rfl)
theorem dX8_round_52 : decode cX8_round 52 = .ok (.iload_n 1, 1) := dk_27 (dk_at dksX8_round_2 4 rfl rfl)
theorem dX8_round_53 : decode cX8_round 53 = .ok (.iload 4, 2) := dk_21 4 (dk_at dksX8_round_2 5 rfl rfl)
theorem dX8_round_55 : decode cX8_round 55 = .ok (.isub, 1) := dk_100 (dk_at dksX8_round_2 7 rfl rfl)
theorem dX8_round_56 : decode cX8_round 56 = .ok (.iload_n 2, 1) := dk_28 (dk_at dksX8_round_2 8 rfl rfl)
theorem dX8_round_57 : decode cX8_round 57 = .ok (.isub, 1) := dk_100 (dk_at dksX8_round_2 9 rfl rfl)
theorem dX8_round_58 : decode cX8_round 58 = .ok (.invokevirtual 316, 3) := dk_182 1 60 (dk_at dksX8_round_2 10 rfl rfl)
theorem dX8_round_61 : decode cX8_round 61 = .ok (.istore_n 3, 1) := dk_62 (dk_at dksX8_round_2 13 rfl rfl)
theorem dX8_round_62 : decode cX8_round 62 = .ok (.iinc 4 1, 3) := dk_132 4 1 (dk_at dksX8_round_2 14 rfl rfl)
theorem dX8_round_65 : decode cX8_round 65 = .ok (.goto (-28), 3) := dk_167 255 228 (dk_at dksX8_round_2 17 rfl rfl)
theorem dX8_round_68 : decode cX8_round 68 = .ok (.iload_n 3, 1) := dk_29 (dk_at dksX8_round_2 20 rfl rfl)
theorem dX8_round_69 : decode cX8_round 69 = .ok (.ifCond .eq 5, 3) := dk_153 0 5 (dk_at dksX8_round_2 21 rfl rfl)
theorem dX8_round_72 : decode cX8_round 72 = .ok (.iload_n 2, 1) := dk_28 (dk_at dksX8_round_3 0 rfl rfl)
theorem dX8_round_73 : decode cX8_round 73 = .ok (.ireturn, 1) := dk_172 (dk_at dksX8_round_3 1 rfl rfl)
theorem dX8_round_74 : decode cX8_round 74 = .ok (.iinc 2 1, 3) := dk_132 2 1 (dk_at dksX8_round_3 2 rfl rfl)
theorem dX8_round_77 : decode cX8_round 77 = .ok (.goto (-61), 3) := dk_167 255 195 (dk_at dksX8_round_3 5 rfl rfl)
theorem dX8_round_80 : decode cX8_round 80 = .ok (.iconst (-1), 1) := dk_2 (dk_at dksX8_round_3 8 rfl rfl)
theorem dX8_round_81 : decode cX8_round 81 = .ok (.ireturn, 1) := dk_172 (dk_at dksX8_round_3 9 rfl rfl)
abbrev cX8_isAlike : ByteArray := prog_29_method_56_code
def yX8_isAlike : MethodName := ⟨RX8, "isAlike", "(II)Z"⟩
def dkwX8_isAlike_1 : List UInt8 := [159, 0, 5, 3, 172, 132, 3, 1, 167, 255, 226, 4, 172]
abbrev dktX8_isAlike_1 : List UInt8 := dkwX8_isAlike_1 ++ []
def dkwX8_isAlike_0 : List UInt8 := [3, 62, 29, 42, 180, 0, 9, 3, 46, 162, 0, 26, 42, 29, 27, 182, 1, 55, 42, 29, 28, 182, 1, 55]
abbrev dktX8_isAlike_0 : List UInt8 := dkwX8_isAlike_0 ++ dktX8_isAlike_1
theorem dksX8_isAlike_0 : cX8_isAlike.data.toList.drop 0 = dktX8_isAlike_0 := by decide +kernel
theorem dksX8_isAlike_1 : cX8_isAlike.data.toList.drop 24 = dktX8_isAlike_1 := dk_seg dksX8_isAlike_0 24 rfl rfl
theorem dX8_isAlike_0 : decode cX8_isAlike 0 = .ok (.iconst 0, 1) := dk_3 (dk_at dksX8_isAlike_0 0 rfl rfl)
theorem dX8_isAlike_1 : decode cX8_isAlike 1 = .ok (.istore_n 3, 1) := dk_62 (dk_at dksX8_isAlike_0 1 rfl rfl)
theorem dX8_isAlike_2 : decode cX8_isAlike 2 = .ok (.iload_n 3, 1) := dk_29 (dk_at dksX8_isAlike_0 2 rfl rfl)
theorem dX8_isAlike_3 : decode cX8_isAlike 3 = .ok (.aload_n 0, 1) := dk_42 (dk_at dksX8_isAlike_0 3 rfl rfl)
theorem dX8_isAlike_4 : decode cX8_isAlike 4 = .ok (.getfield 9, 3) := dk_180 0 9 (dk_at dksX8_isAlike_0 4 rfl rfl)
theorem dX8_isAlike_7 : decode cX8_isAlike 7 = .ok (.iconst 0, 1) := dk_3 (dk_at dksX8_isAlike_0 7 rfl rfl)
theorem dX8_isAlike_8 : decode cX8_isAlike 8 = .ok (.iaload, 1) := dk_46 (dk_at dksX8_isAlike_0 8 rfl rfl)
theorem dX8_isAlike_9 : decode cX8_isAlike 9 = .ok (.if_icmp .ge 26, 3) := dk_162 0 26 (dk_at dksX8_isAlike_0 9 rfl rfl)
theorem dX8_isAlike_12 : decode cX8_isAlike 12 = .ok (.aload_n 0, 1) := dk_42 (dk_at dksX8_isAlike_0 12 rfl rfl)
theorem dX8_isAlike_13 : decode cX8_isAlike 13 = .ok (.iload_n 3, 1) := dk_29 (dk_at dksX8_isAlike_0 13 rfl rfl)
theorem dX8_isAlike_14 : decode cX8_isAlike 14 = .ok (.iload_n 1, 1) := dk_27 (dk_at dksX8_isAlike_0 14 rfl rfl)
theorem dX8_isAlike_15 : decode cX8_isAlike 15 = .ok (.invokevirtual 311, 3) := dk_182 1 55 (dk_at dksX8_isAlike_0 15 rfl rfl)
theorem dX8_isAlike_18 : decode cX8_isAlike 18 = .ok (.aload_n 0, 1) := dk_42 (dk_at dksX8_isAlike_0 18 rfl rfl)
theorem dX8_isAlike_19 : decode cX8_isAlike 19 = .ok (.iload_n 3, 1) := dk_29 (dk_at dksX8_isAlike_0 19 rfl rfl)
theorem dX8_isAlike_20 : decode cX8_isAlike 20 = .ok (.iload_n 2, 1) := dk_28 (dk_at dksX8_isAlike_0 20 rfl rfl)
theorem dX8_isAlike_21 : decode cX8_isAlike 21 = .ok (.invokevirtual 311, 3) := dk_182 1 55 (dk_at dksX8_isAlike_0 21 rfl rfl)
theorem dX8_isAlike_24 : decode cX8_isAlike 24 = .ok (.if_icmp .eq 5, 3) := dk_159 0 5 (dk_at dksX8_isAlike_1 0 rfl rfl)
theorem dX8_isAlike_27 : decode cX8_isAlike 27 = .ok (.iconst 0, 1) := dk_3 (dk_at dksX8_isAlike_1 3 rfl rfl)
theorem dX8_isAlike_28 : decode cX8_isAlike 28 = .ok (.ireturn, 1) := dk_172 (dk_at dksX8_isAlike_1 4 rfl rfl)
theorem dX8_isAlike_29 : decode cX8_isAlike 29 = .ok (.iinc 3 1, 3) := dk_132 3 1 (dk_at dksX8_isAlike_1 5 rfl rfl)
theorem dX8_isAlike_32 : decode cX8_isAlike 32 = .ok (.goto (-30), 3) := dk_167 255 226 (dk_at dksX8_isAlike_1 8 rfl rfl)
theorem dX8_isAlike_35 : decode cX8_isAlike 35 = .ok (.iconst 1, 1) := dk_4 (dk_at dksX8_isAlike_1 11 rfl rfl)
theorem dX8_isAlike_36 : decode cX8_isAlike 36 = .ok (.ireturn, 1) := dk_172 (dk_at dksX8_isAlike_1 12 rfl rfl)
abbrev cX8_leads : ByteArray := prog_29_method_61_code
def yX8_leads : MethodName := ⟨RX8, "leads", "(IZ)I"⟩
def dkwX8_leads_3 : List UInt8 := [153, 0, 6, 132, 3, 1, 132, 4, 1, 167, 255, 215, 29, 172]
abbrev dktX8_leads_3 : List UInt8 := dkwX8_leads_3 ++ []
def dkwX8_leads_2 : List UInt8 := [162, 0, 36, 42, 27, 21, 4, 182, 1, 66, 153, 0, 20, 28, 153, 0, 13, 42, 27, 21, 4, 182, 1, 69]
abbrev dktX8_leads_2 : List UInt8 := dkwX8_leads_2 ++ dktX8_leads_3
def dkwX8_leads_1 : List UInt8 := [180, 0, 9, 5, 46, 17, 1, 0, 100, 5, 96, 184, 1, 5, 54, 4, 21, 4, 42, 180, 0, 9, 5, 46]
abbrev dktX8_leads_1 : List UInt8 := dkwX8_leads_1 ++ dktX8_leads_2
def dkwX8_leads_0 : List UInt8 := [42, 3, 181, 0, 76, 42, 27, 182, 0, 91, 154, 0, 9, 42, 4, 182, 0, 83, 172, 3, 62, 5, 42]
abbrev dktX8_leads_0 : List UInt8 := dkwX8_leads_0 ++ dktX8_leads_1
theorem dksX8_leads_0 : cX8_leads.data.toList.drop 0 = dktX8_leads_0 := by decide +kernel
theorem dksX8_leads_1 : cX8_leads.data.toList.drop 23 = dktX8_leads_1 := dk_seg dksX8_leads_0 23 rfl rfl
theorem dksX8_leads_2 : cX8_leads.data.toList.drop 47 = dktX8_leads_2 := dk_seg dksX8_leads_1 24 rfl rfl
theorem dksX8_leads_3 : cX8_leads.data.toList.drop 71 = dktX8_leads_3 := dk_seg dksX8_leads_2 24 rfl rfl
theorem dX8_leads_0 : decode cX8_leads 0 = .ok (.aload_n 0, 1) := dk_42 (dk_at dksX8_leads_0 0 rfl rfl)
theorem dX8_leads_1 : decode cX8_leads 1 = .ok (.iconst 0, 1) := dk_3 (dk_at dksX8_leads_0 1 rfl rfl)
theorem dX8_leads_2 : decode cX8_leads 2 = .ok (.putfield 76, 3) := dk_181 0 76 (dk_at dksX8_leads_0 2 rfl rfl)
theorem dX8_leads_5 : decode cX8_leads 5 = .ok (.aload_n 0, 1) := dk_42 (dk_at dksX8_leads_0 5 rfl rfl)
theorem dX8_leads_6 : decode cX8_leads 6 = .ok (.iload_n 1, 1) := dk_27 (dk_at dksX8_leads_0 6 rfl rfl)
theorem dX8_leads_7 : decode cX8_leads 7 = .ok (.invokevirtual 91, 3) := dk_182 0 91 (dk_at dksX8_leads_0 7 rfl rfl)
theorem dX8_leads_10 : decode cX8_leads 10 = .ok (.ifCond .ne 9, 3) := dk_154 0 9 (dk_at dksX8_leads_0 10 rfl rfl)
theorem dX8_leads_13 : decode cX8_leads 13 = .ok (.aload_n 0, 1) := dk_42 (dk_at dksX8_leads_0 13 rfl rfl)
theorem dX8_leads_14 : decode cX8_leads 14 = .ok (.iconst 1, 1) := dk_4 (dk_at dksX8_leads_0 14 rfl rfl)
theorem dX8_leads_15 : decode cX8_leads 15 = .ok (.invokevirtual 83, 3) := dk_182 0 83 (dk_at dksX8_leads_0 15 rfl rfl)
theorem dX8_leads_18 : decode cX8_leads 18 = .ok (.ireturn, 1) := dk_172 (dk_at dksX8_leads_0 18 rfl rfl)
theorem dX8_leads_19 : decode cX8_leads 19 = .ok (.iconst 0, 1) := dk_3 (dk_at dksX8_leads_0 19 rfl rfl)
theorem dX8_leads_20 : decode cX8_leads 20 = .ok (.istore_n 3, 1) := dk_62 (dk_at dksX8_leads_0 20 rfl rfl)
theorem dX8_leads_21 : decode cX8_leads 21 = .ok (.iconst 2, 1) := dk_5 (dk_at dksX8_leads_0 21 rfl rfl)
theorem dX8_leads_22 : decode cX8_leads 22 = .ok (.aload_n 0, 1) := dk_42 (dk_at dksX8_leads_0 22 rfl rfl)
theorem dX8_leads_23 : decode cX8_leads 23 = .ok (.getfield 9, 3) := dk_180 0 9 (dk_at dksX8_leads_1 0 rfl rfl)
theorem dX8_leads_26 : decode cX8_leads 26 = .ok (.iconst 2, 1) := dk_5 (dk_at dksX8_leads_1 3 rfl rfl)
theorem dX8_leads_27 : decode cX8_leads 27 = .ok (.iaload, 1) := dk_46 (dk_at dksX8_leads_1 4 rfl rfl)
theorem dX8_leads_28 : decode cX8_leads 28 = .ok (.sipush 256, 3) := dk_17 1 0 (dk_at dksX8_leads_1 5 rfl rfl)
theorem dX8_leads_31 : decode cX8_leads 31 = .ok (.isub, 1) := dk_100 (dk_at dksX8_leads_1 8 rfl rfl)
theorem dX8_leads_32 : decode cX8_leads 32 = .ok (.iconst 2, 1) := dk_5 (dk_at dksX8_leads_1 9 rfl rfl)
theorem dX8_leads_33 : decode cX8_leads 33 = .ok (.iadd, 1) := dk_96 (dk_at dksX8_leads_1 10 rfl rfl)
theorem dX8_leads_34 : decode cX8_leads 34 = .ok (.invokestatic 261, 3) := dk_184 1 5 (dk_at dksX8_leads_1 11 rfl rfl)
theorem dX8_leads_37 : decode cX8_leads 37 = .ok (.istore 4, 2) := dk_54 4 (dk_at dksX8_leads_1 14 rfl rfl)
theorem dX8_leads_39 : decode cX8_leads 39 = .ok (.iload 4, 2) := dk_21 4 (dk_at dksX8_leads_1 16 rfl rfl)
theorem dX8_leads_41 : decode cX8_leads 41 = .ok (.aload_n 0, 1) := dk_42 (dk_at dksX8_leads_1 18 rfl rfl)
theorem dX8_leads_42 : decode cX8_leads 42 = .ok (.getfield 9, 3) := dk_180 0 9 (dk_at dksX8_leads_1 19 rfl rfl)
theorem dX8_leads_45 : decode cX8_leads 45 = .ok (.iconst 2, 1) := dk_5 (dk_at dksX8_leads_1 22 rfl rfl)
theorem dX8_leads_46 : decode cX8_leads 46 = .ok (.iaload, 1) := dk_46 (dk_at dksX8_leads_1 23 rfl rfl)
theorem dX8_leads_47 : decode cX8_leads 47 = .ok (.if_icmp .ge 36, 3) := dk_162 0 36 (dk_at dksX8_leads_2 0 rfl rfl)
theorem dX8_leads_50 : decode cX8_leads 50 = .ok (.aload_n 0, 1) := dk_42 (dk_at dksX8_leads_2 3 rfl rfl)
theorem dX8_leads_51 : decode cX8_leads 51 = .ok (.iload_n 1, 1) := dk_27 (dk_at dksX8_leads_2 4 rfl rfl)
theorem dX8_leads_52 : decode cX8_leads 52 = .ok (.iload 4, 2) := dk_21 4 (dk_at dksX8_leads_2 5 rfl rfl)
theorem dX8_leads_54 : decode cX8_leads 54 = .ok (.invokevirtual 322, 3) := dk_182 1 66 (dk_at dksX8_leads_2 7 rfl rfl)
theorem dX8_leads_57 : decode cX8_leads 57 = .ok (.ifCond .eq 20, 3) := dk_153 0 20 (dk_at dksX8_leads_2 10 rfl rfl)
theorem dX8_leads_60 : decode cX8_leads 60 = .ok (.iload_n 2, 1) := dk_28 (dk_at dksX8_leads_2 13 rfl rfl)
theorem dX8_leads_61 : decode cX8_leads 61 = .ok (.ifCond .eq 13, 3) := dk_153 0 13 (dk_at dksX8_leads_2 14 rfl rfl)
theorem dX8_leads_64 : decode cX8_leads 64 = .ok (.aload_n 0, 1) := dk_42 (dk_at dksX8_leads_2 17 rfl rfl)
theorem dX8_leads_65 : decode cX8_leads 65 = .ok (.iload_n 1, 1) := dk_27 (dk_at dksX8_leads_2 18 rfl rfl)
theorem dX8_leads_66 : decode cX8_leads 66 = .ok (.iload 4, 2) := dk_21 4 (dk_at dksX8_leads_2 19 rfl rfl)
theorem dX8_leads_68 : decode cX8_leads 68 = .ok (.invokevirtual 325, 3) := dk_182 1 69 (dk_at dksX8_leads_2 21 rfl rfl)
theorem dX8_leads_71 : decode cX8_leads 71 = .ok (.ifCond .eq 6, 3) := dk_153 0 6 (dk_at dksX8_leads_3 0 rfl rfl)
theorem dX8_leads_74 : decode cX8_leads 74 = .ok (.iinc 3 1, 3) := dk_132 3 1 (dk_at dksX8_leads_3 3 rfl rfl)
theorem dX8_leads_77 : decode cX8_leads 77 = .ok (.iinc 4 1, 3) := dk_132 4 1 (dk_at dksX8_leads_3 6 rfl rfl)
theorem dX8_leads_80 : decode cX8_leads 80 = .ok (.goto (-41), 3) := dk_167 255 215 (dk_at dksX8_leads_3 9 rfl rfl)
theorem dX8_leads_83 : decode cX8_leads 83 = .ok (.iload_n 3, 1) := dk_29 (dk_at dksX8_leads_3 12 rfl rfl)
theorem dX8_leads_84 : decode cX8_leads 84 = .ok (.ireturn, 1) := dk_172 (dk_at dksX8_leads_3 13 rfl rfl)
abbrev cX8_isLead : ByteArray := prog_29_method_59_code
def yX8_isLead : MethodName := ⟨RX8, "isLead", "(II)Z"⟩
def dkwX8_isLead_3 : List UInt8 := [167, 0, 4, 3, 62, 132, 4, 1, 167, 255, 204, 29, 172]
abbrev dktX8_isLead_3 : List UInt8 := dkwX8_isLead_3 ++ []
def dkwX8_isLead_2 : List UInt8 := [100, 182, 1, 64, 154, 0, 23, 21, 4, 27, 159, 0, 13, 42, 21, 4, 28, 182, 1, 64, 154, 0, 7, 4]
abbrev dktX8_isLead_2 : List UInt8 := dkwX8_isLead_2 ++ dktX8_isLead_3
def dkwX8_isLead_1 : List UInt8 := [62, 3, 54, 4, 21, 4, 42, 180, 0, 9, 3, 46, 162, 0, 47, 29, 153, 0, 43, 42, 21, 4, 28, 4]
abbrev dktX8_isLead_1 : List UInt8 := dkwX8_isLead_1 ++ dktX8_isLead_2
def dkwX8_isLead_0 : List UInt8 := [42, 28, 5, 100, 182, 1, 52, 153, 0, 16, 42, 27, 28, 182, 1, 64, 153, 0, 7, 4, 167, 0, 4, 3]
abbrev dktX8_isLead_0 : List UInt8 := dkwX8_isLead_0 ++ dktX8_isLead_1
theorem dksX8_isLead_0 : cX8_isLead.data.toList.drop 0 = dktX8_isLead_0 := by decide +kernel
theorem dksX8_isLead_1 : cX8_isLead.data.toList.drop 24 = dktX8_isLead_1 := dk_seg dksX8_isLead_0 24 rfl rfl
theorem dksX8_isLead_2 : cX8_isLead.data.toList.drop 48 = dktX8_isLead_2 := dk_seg dksX8_isLead_1 24 rfl rfl
theorem dksX8_isLead_3 : cX8_isLead.data.toList.drop 72 = dktX8_isLead_3 := dk_seg dksX8_isLead_2 24 rfl rfl
theorem dX8_isLead_0 : decode cX8_isLead 0 = .ok (.aload_n 0, 1) := dk_42 (dk_at dksX8_isLead_0 0 rfl rfl)
theorem dX8_isLead_1 : decode cX8_isLead 1 = .ok (.iload_n 2, 1) := dk_28 (dk_at dksX8_isLead_0 1 rfl rfl)
theorem dX8_isLead_2 : decode cX8_isLead 2 = .ok (.iconst 2, 1) := dk_5 (dk_at dksX8_isLead_0 2 rfl rfl)
theorem dX8_isLead_3 : decode cX8_isLead 3 = .ok (.isub, 1) := dk_100 (dk_at dksX8_isLead_0 3 rfl rfl)
theorem dX8_isLead_4 : decode cX8_isLead 4 = .ok (.invokevirtual 308, 3) := dk_182 1 52 (dk_at dksX8_isLead_0 4 rfl rfl)
theorem dX8_isLead_7 : decode cX8_isLead 7 = .ok (.ifCond .eq 16, 3) := dk_153 0 16 (dk_at dksX8_isLead_0 7 rfl rfl)
theorem dX8_isLead_10 : decode cX8_isLead 10 = .ok (.aload_n 0, 1) := dk_42 (dk_at dksX8_isLead_0 10 rfl rfl)
theorem dX8_isLead_11 : decode cX8_isLead 11 = .ok (.iload_n 1, 1) := dk_27 (dk_at dksX8_isLead_0 11 rfl rfl)
theorem dX8_isLead_12 : decode cX8_isLead 12 = .ok (.iload_n 2, 1) := dk_28 (dk_at dksX8_isLead_0 12 rfl rfl)
theorem dX8_isLead_13 : decode cX8_isLead 13 = .ok (.invokevirtual 320, 3) := dk_182 1 64 (dk_at dksX8_isLead_0 13 rfl rfl)
theorem dX8_isLead_16 : decode cX8_isLead 16 = .ok (.ifCond .eq 7, 3) := dk_153 0 7 (dk_at dksX8_isLead_0 16 rfl rfl)
theorem dX8_isLead_19 : decode cX8_isLead 19 = .ok (.iconst 1, 1) := dk_4 (dk_at dksX8_isLead_0 19 rfl rfl)
theorem dX8_isLead_20 : decode cX8_isLead 20 = .ok (.goto 4, 3) := dk_167 0 4 (dk_at dksX8_isLead_0 20 rfl rfl)
theorem dX8_isLead_23 : decode cX8_isLead 23 = .ok (.iconst 0, 1) := dk_3 (dk_at dksX8_isLead_0 23 rfl rfl)
theorem dX8_isLead_24 : decode cX8_isLead 24 = .ok (.istore_n 3, 1) := dk_62 (dk_at dksX8_isLead_1 0 rfl rfl)
theorem dX8_isLead_25 : decode cX8_isLead 25 = .ok (.iconst 0, 1) := dk_3 (dk_at dksX8_isLead_1 1 rfl rfl)
theorem dX8_isLead_26 : decode cX8_isLead 26 = .ok (.istore 4, 2) := dk_54 4 (dk_at dksX8_isLead_1 2 rfl rfl)
theorem dX8_isLead_28 : decode cX8_isLead 28 = .ok (.iload 4, 2) := dk_21 4 (dk_at dksX8_isLead_1 4 rfl rfl)
theorem dX8_isLead_30 : decode cX8_isLead 30 = .ok (.aload_n 0, 1) := dk_42 (dk_at dksX8_isLead_1 6 rfl rfl)
theorem dX8_isLead_31 : decode cX8_isLead 31 = .ok (.getfield 9, 3) := dk_180 0 9 (dk_at dksX8_isLead_1 7 rfl rfl)
theorem dX8_isLead_34 : decode cX8_isLead 34 = .ok (.iconst 0, 1) := dk_3 (dk_at dksX8_isLead_1 10 rfl rfl)
theorem dX8_isLead_35 : decode cX8_isLead 35 = .ok (.iaload, 1) := dk_46 (dk_at dksX8_isLead_1 11 rfl rfl)
theorem dX8_isLead_36 : decode cX8_isLead 36 = .ok (.if_icmp .ge 47, 3) := dk_162 0 47 (dk_at dksX8_isLead_1 12 rfl rfl)
theorem dX8_isLead_39 : decode cX8_isLead 39 = .ok (.iload_n 3, 1) := dk_29 (dk_at dksX8_isLead_1 15 rfl rfl)
theorem dX8_isLead_40 : decode cX8_isLead 40 = .ok (.ifCond .eq 43, 3) := dk_153 0 43 (dk_at dksX8_isLead_1 16 rfl rfl)
theorem dX8_isLead_43 : decode cX8_isLead 43 = .ok (.aload_n 0, 1) := dk_42 (dk_at dksX8_isLead_1 19 rfl rfl)
theorem dX8_isLead_44 : decode cX8_isLead 44 = .ok (.iload 4, 2) := dk_21 4 (dk_at dksX8_isLead_1 20 rfl rfl)
theorem dX8_isLead_46 : decode cX8_isLead 46 = .ok (.iload_n 2, 1) := dk_28 (dk_at dksX8_isLead_1 22 rfl rfl)
theorem dX8_isLead_47 : decode cX8_isLead 47 = .ok (.iconst 1, 1) := dk_4 (dk_at dksX8_isLead_1 23 rfl rfl)
theorem dX8_isLead_48 : decode cX8_isLead 48 = .ok (.isub, 1) := dk_100 (dk_at dksX8_isLead_2 0 rfl rfl)
theorem dX8_isLead_49 : decode cX8_isLead 49 = .ok (.invokevirtual 320, 3) := dk_182 1 64 (dk_at dksX8_isLead_2 1 rfl rfl)
theorem dX8_isLead_52 : decode cX8_isLead 52 = .ok (.ifCond .ne 23, 3) := dk_154 0 23 (dk_at dksX8_isLead_2 4 rfl rfl)
theorem dX8_isLead_55 : decode cX8_isLead 55 = .ok (.iload 4, 2) := dk_21 4 (dk_at dksX8_isLead_2 7 rfl rfl)
theorem dX8_isLead_57 : decode cX8_isLead 57 = .ok (.iload_n 1, 1) := dk_27 (dk_at dksX8_isLead_2 9 rfl rfl)
theorem dX8_isLead_58 : decode cX8_isLead 58 = .ok (.if_icmp .eq 13, 3) := dk_159 0 13 (dk_at dksX8_isLead_2 10 rfl rfl)
theorem dX8_isLead_61 : decode cX8_isLead 61 = .ok (.aload_n 0, 1) := dk_42 (dk_at dksX8_isLead_2 13 rfl rfl)
theorem dX8_isLead_62 : decode cX8_isLead 62 = .ok (.iload 4, 2) := dk_21 4 (dk_at dksX8_isLead_2 14 rfl rfl)
theorem dX8_isLead_64 : decode cX8_isLead 64 = .ok (.iload_n 2, 1) := dk_28 (dk_at dksX8_isLead_2 16 rfl rfl)
theorem dX8_isLead_65 : decode cX8_isLead 65 = .ok (.invokevirtual 320, 3) := dk_182 1 64 (dk_at dksX8_isLead_2 17 rfl rfl)
theorem dX8_isLead_68 : decode cX8_isLead 68 = .ok (.ifCond .ne 7, 3) := dk_154 0 7 (dk_at dksX8_isLead_2 20 rfl rfl)
theorem dX8_isLead_71 : decode cX8_isLead 71 = .ok (.iconst 1, 1) := dk_4 (dk_at dksX8_isLead_2 23 rfl rfl)
theorem dX8_isLead_72 : decode cX8_isLead 72 = .ok (.goto 4, 3) := dk_167 0 4 (dk_at dksX8_isLead_3 0 rfl rfl)
theorem dX8_isLead_75 : decode cX8_isLead 75 = .ok (.iconst 0, 1) := dk_3 (dk_at dksX8_isLead_3 3 rfl rfl)
theorem dX8_isLead_76 : decode cX8_isLead 76 = .ok (.istore_n 3, 1) := dk_62 (dk_at dksX8_isLead_3 4 rfl rfl)
theorem dX8_isLead_77 : decode cX8_isLead 77 = .ok (.iinc 4 1, 3) := dk_132 4 1 (dk_at dksX8_isLead_3 5 rfl rfl)
theorem dX8_isLead_80 : decode cX8_isLead 80 = .ok (.goto (-52), 3) := dk_167 255 204 (dk_at dksX8_isLead_3 8 rfl rfl)
theorem dX8_isLead_83 : decode cX8_isLead 83 = .ok (.iload_n 3, 1) := dk_29 (dk_at dksX8_isLead_3 11 rfl rfl)
theorem dX8_isLead_84 : decode cX8_isLead 84 = .ok (.ireturn, 1) := dk_172 (dk_at dksX8_isLead_3 12 rfl rfl)
abbrev cX8_rose : ByteArray := prog_29_method_58_code
def yX8_rose : MethodName := ⟨RX8, "rose", "(II)Z"⟩
def dkwX8_rose_0 : List UInt8 := [42, 27, 28, 182, 1, 55, 42, 27, 28, 4, 100, 182, 1, 55, 164, 0, 7, 4, 167, 0, 4, 3, 172]
abbrev dktX8_rose_0 : List UInt8 := dkwX8_rose_0 ++ []
theorem dksX8_rose_0 : cX8_rose.data.toList.drop 0 = dktX8_rose_0 := by decide +kernel
theorem dX8_rose_0 : decode cX8_rose 0 = .ok (.aload_n 0, 1) := dk_42 (dk_at dksX8_rose_0 0 rfl rfl)
theorem dX8_rose_1 : decode cX8_rose 1 = .ok (.iload_n 1, 1) := dk_27 (dk_at dksX8_rose_0 1 rfl rfl)
theorem dX8_rose_2 : decode cX8_rose 2 = .ok (.iload_n 2, 1) := dk_28 (dk_at dksX8_rose_0 2 rfl rfl)
theorem dX8_rose_3 : decode cX8_rose 3 = .ok (.invokevirtual 311, 3) := dk_182 1 55 (dk_at dksX8_rose_0 3 rfl rfl)
theorem dX8_rose_6 : decode cX8_rose 6 = .ok (.aload_n 0, 1) := dk_42 (dk_at dksX8_rose_0 6 rfl rfl)
theorem dX8_rose_7 : decode cX8_rose 7 = .ok (.iload_n 1, 1) := dk_27 (dk_at dksX8_rose_0 7 rfl rfl)
theorem dX8_rose_8 : decode cX8_rose 8 = .ok (.iload_n 2, 1) := dk_28 (dk_at dksX8_rose_0 8 rfl rfl)
theorem dX8_rose_9 : decode cX8_rose 9 = .ok (.iconst 1, 1) := dk_4 (dk_at dksX8_rose_0 9 rfl rfl)
theorem dX8_rose_10 : decode cX8_rose 10 = .ok (.isub, 1) := dk_100 (dk_at dksX8_rose_0 10 rfl rfl)
theorem dX8_rose_11 : decode cX8_rose 11 = .ok (.invokevirtual 311, 3) := dk_182 1 55 (dk_at dksX8_rose_0 11 rfl rfl)
theorem dX8_rose_14 : decode cX8_rose 14 = .ok (.if_icmp .le 7, 3) := dk_164 0 7 (dk_at dksX8_rose_0 14 rfl rfl)
theorem dX8_rose_17 : decode cX8_rose 17 = .ok (.iconst 1, 1) := dk_4 (dk_at dksX8_rose_0 17 rfl rfl)
theorem dX8_rose_18 : decode cX8_rose 18 = .ok (.goto 4, 3) := dk_167 0 4 (dk_at dksX8_rose_0 18 rfl rfl)
theorem dX8_rose_21 : decode cX8_rose 21 = .ok (.iconst 0, 1) := dk_3 (dk_at dksX8_rose_0 21 rfl rfl)
theorem dX8_rose_22 : decode cX8_rose 22 = .ok (.ireturn, 1) := dk_172 (dk_at dksX8_rose_0 22 rfl rfl)
abbrev cX8_isFollowed : ByteArray := prog_29_method_60_code
def yX8_isFollowed : MethodName := ⟨RX8, "isFollowed", "(II)Z"⟩
def dkwX8_isFollowed_3 : List UInt8 := [3, 54, 4, 132, 5, 1, 167, 255, 222, 21, 4, 154, 0, 5, 3, 172, 132, 3, 1, 167, 255, 184, 4, 172]
abbrev dktX8_isFollowed_3 : List UInt8 := dkwX8_isFollowed_3 ++ []
def dkwX8_isFollowed_2 : List UInt8 := [163, 0, 33, 21, 4, 154, 0, 15, 42, 29, 28, 21, 5, 96, 182, 1, 64, 153, 0, 7, 4, 167, 0, 4]
abbrev dktX8_isFollowed_2 : List UInt8 := dkwX8_isFollowed_2 ++ dktX8_isFollowed_3
def dkwX8_isFollowed_1 : List UInt8 := [162, 0, 68, 29, 27, 160, 0, 7, 4, 167, 0, 4, 3, 54, 4, 4, 54, 5, 21, 5, 16, 6]
abbrev dktX8_isFollowed_1 : List UInt8 := dkwX8_isFollowed_1 ++ dktX8_isFollowed_2
def dkwX8_isFollowed_0 : List UInt8 := [42, 28, 16, 6, 96, 182, 1, 52, 154, 0, 5, 3, 172, 3, 62, 29, 42, 180, 0, 9, 3, 46]
abbrev dktX8_isFollowed_0 : List UInt8 := dkwX8_isFollowed_0 ++ dktX8_isFollowed_1
theorem dksX8_isFollowed_0 : cX8_isFollowed.data.toList.drop 0 = dktX8_isFollowed_0 := by decide +kernel
theorem dksX8_isFollowed_1 : cX8_isFollowed.data.toList.drop 22 = dktX8_isFollowed_1 := dk_seg dksX8_isFollowed_0 22 rfl rfl
theorem dksX8_isFollowed_2 : cX8_isFollowed.data.toList.drop 44 = dktX8_isFollowed_2 := dk_seg dksX8_isFollowed_1 22 rfl rfl
theorem dksX8_isFollowed_3 : cX8_isFollowed.data.toList.drop 68 = dktX8_isFollowed_3 := dk_seg dksX8_isFollowed_2 24 rfl rfl
theorem dX8_isFollowed_0 : decode cX8_isFollowed 0 = .ok (.aload_n 0, 1) := dk_42 (dk_at dksX8_isFollowed_0 0 rfl rfl)
theorem dX8_isFollowed_1 : decode cX8_isFollowed 1 = .ok (.iload_n 2, 1) := dk_28 (dk_at dksX8_isFollowed_0 1 rfl rfl)
theorem dX8_isFollowed_2 : decode cX8_isFollowed 2 = .ok (.bipush 6, 2) := dk_16 6 (dk_at dksX8_isFollowed_0 2 rfl rfl)
theorem dX8_isFollowed_4 : decode cX8_isFollowed 4 = .ok (.iadd, 1) := dk_96 (dk_at dksX8_isFollowed_0 4 rfl rfl)
theorem dX8_isFollowed_5 : decode cX8_isFollowed 5 = .ok (.invokevirtual 308, 3) := dk_182 1 52 (dk_at dksX8_isFollowed_0 5 rfl rfl)
theorem dX8_isFollowed_8 : decode cX8_isFollowed 8 = .ok (.ifCond .ne 5, 3) := dk_154 0 5 (dk_at dksX8_isFollowed_0 8 rfl rfl)
theorem dX8_isFollowed_11 : decode cX8_isFollowed 11 = .ok (.iconst 0, 1) := dk_3 (dk_at dksX8_isFollowed_0 11 rfl rfl)
theorem dX8_isFollowed_12 : decode cX8_isFollowed 12 = .ok (.ireturn, 1) := dk_172 (dk_at dksX8_isFollowed_0 12 rfl rfl)
theorem dX8_isFollowed_13 : decode cX8_isFollowed 13 = .ok (.iconst 0, 1) := dk_3 (dk_at dksX8_isFollowed_0 13 rfl rfl)
theorem dX8_isFollowed_14 : decode cX8_isFollowed 14 = .ok (.istore_n 3, 1) := dk_62 (dk_at dksX8_isFollowed_0 14 rfl rfl)
theorem dX8_isFollowed_15 : decode cX8_isFollowed 15 = .ok (.iload_n 3, 1) := dk_29 (dk_at dksX8_isFollowed_0 15 rfl rfl)
theorem dX8_isFollowed_16 : decode cX8_isFollowed 16 = .ok (.aload_n 0, 1) := dk_42 (dk_at dksX8_isFollowed_0 16 rfl rfl)
theorem dX8_isFollowed_17 : decode cX8_isFollowed 17 = .ok (.getfield 9, 3) := dk_180 0 9 (dk_at dksX8_isFollowed_0 17 rfl rfl)
theorem dX8_isFollowed_20 : decode cX8_isFollowed 20 = .ok (.iconst 0, 1) := dk_3 (dk_at dksX8_isFollowed_0 20 rfl rfl)
theorem dX8_isFollowed_21 : decode cX8_isFollowed 21 = .ok (.iaload, 1) := dk_46 (dk_at dksX8_isFollowed_0 21 rfl rfl)
theorem dX8_isFollowed_22 : decode cX8_isFollowed 22 = .ok (.if_icmp .ge 68, 3) := dk_162 0 68 (dk_at dksX8_isFollowed_1 0 rfl rfl)
theorem dX8_isFollowed_25 : decode cX8_isFollowed 25 = .ok (.iload_n 3, 1) := dk_29 (dk_at dksX8_isFollowed_1 3 rfl rfl)
theorem dX8_isFollowed_26 : decode cX8_isFollowed 26 = .ok (.iload_n 1, 1) := dk_27 (dk_at dksX8_isFollowed_1 4 rfl rfl)
theorem dX8_isFollowed_27 : decode cX8_isFollowed 27 = .ok (.if_icmp .ne 7, 3) := dk_160 0 7 (dk_at dksX8_isFollowed_1 5 rfl rfl)
theorem dX8_isFollowed_30 : decode cX8_isFollowed 30 = .ok (.iconst 1, 1) := dk_4 (dk_at dksX8_isFollowed_1 8 rfl rfl)
theorem dX8_isFollowed_31 : decode cX8_isFollowed 31 = .ok (.goto 4, 3) := dk_167 0 4 (dk_at dksX8_isFollowed_1 9 rfl rfl)
theorem dX8_isFollowed_34 : decode cX8_isFollowed 34 = .ok (.iconst 0, 1) := dk_3 (dk_at dksX8_isFollowed_1 12 rfl rfl)
theorem dX8_isFollowed_35 : decode cX8_isFollowed 35 = .ok (.istore 4, 2) := dk_54 4 (dk_at dksX8_isFollowed_1 13 rfl rfl)
theorem dX8_isFollowed_37 : decode cX8_isFollowed 37 = .ok (.iconst 1, 1) := dk_4 (dk_at dksX8_isFollowed_1 15 rfl rfl)
theorem dX8_isFollowed_38 : decode cX8_isFollowed 38 = .ok (.istore 5, 2) := dk_54 5 (dk_at dksX8_isFollowed_1 16 rfl rfl)
theorem dX8_isFollowed_40 : decode cX8_isFollowed 40 = .ok (.iload 5, 2) := dk_21 5 (dk_at dksX8_isFollowed_1 18 rfl rfl)
theorem dX8_isFollowed_42 : decode cX8_isFollowed 42 = .ok (.bipush 6, 2) := dk_16 6 (dk_at dksX8_isFollowed_1 20 rfl rfl)
theorem dX8_isFollowed_44 : decode cX8_isFollowed 44 = .ok (.if_icmp .gt 33, 3) := dk_163 0 33 (dk_at dksX8_isFollowed_2 0 rfl rfl)
theorem dX8_isFollowed_47 : decode cX8_isFollowed 47 = .ok (.iload 4, 2) := dk_21 4 (dk_at dksX8_isFollowed_2 3 rfl rfl)
theorem dX8_isFollowed_49 : decode cX8_isFollowed 49 = .ok (.ifCond .ne 15, 3) := dk_154 0 15 (dk_at dksX8_isFollowed_2 5 rfl rfl)
theorem dX8_isFollowed_52 : decode cX8_isFollowed 52 = .ok (.aload_n 0, 1) := dk_42 (dk_at dksX8_isFollowed_2 8 rfl rfl)
theorem dX8_isFollowed_53 : decode cX8_isFollowed 53 = .ok (.iload_n 3, 1) := dk_29 (dk_at dksX8_isFollowed_2 9 rfl rfl)
theorem dX8_isFollowed_54 : decode cX8_isFollowed 54 = .ok (.iload_n 2, 1) := dk_28 (dk_at dksX8_isFollowed_2 10 rfl rfl)
theorem dX8_isFollowed_55 : decode cX8_isFollowed 55 = .ok (.iload 5, 2) := dk_21 5 (dk_at dksX8_isFollowed_2 11 rfl rfl)
theorem dX8_isFollowed_57 : decode cX8_isFollowed 57 = .ok (.iadd, 1) := dk_96 (dk_at dksX8_isFollowed_2 13 rfl rfl)
theorem dX8_isFollowed_58 : decode cX8_isFollowed 58 = .ok (.invokevirtual 320, 3) := dk_182 1 64 (dk_at dksX8_isFollowed_2 14 rfl rfl)
theorem dX8_isFollowed_61 : decode cX8_isFollowed 61 = .ok (.ifCond .eq 7, 3) := dk_153 0 7 (dk_at dksX8_isFollowed_2 17 rfl rfl)
theorem dX8_isFollowed_64 : decode cX8_isFollowed 64 = .ok (.iconst 1, 1) := dk_4 (dk_at dksX8_isFollowed_2 20 rfl rfl)
theorem dX8_isFollowed_65 : decode cX8_isFollowed 65 = .ok (.goto 4, 3) := dk_167 0 4 (dk_at dksX8_isFollowed_2 21 rfl rfl)
theorem dX8_isFollowed_68 : decode cX8_isFollowed 68 = .ok (.iconst 0, 1) := dk_3 (dk_at dksX8_isFollowed_3 0 rfl rfl)
theorem dX8_isFollowed_69 : decode cX8_isFollowed 69 = .ok (.istore 4, 2) := dk_54 4 (dk_at dksX8_isFollowed_3 1 rfl rfl)
theorem dX8_isFollowed_71 : decode cX8_isFollowed 71 = .ok (.iinc 5 1, 3) := dk_132 5 1 (dk_at dksX8_isFollowed_3 3 rfl rfl)
theorem dX8_isFollowed_74 : decode cX8_isFollowed 74 = .ok (.goto (-34), 3) := dk_167 255 222 (dk_at dksX8_isFollowed_3 6 rfl rfl)
theorem dX8_isFollowed_77 : decode cX8_isFollowed 77 = .ok (.iload 4, 2) := dk_21 4 (dk_at dksX8_isFollowed_3 9 rfl rfl)
theorem dX8_isFollowed_79 : decode cX8_isFollowed 79 = .ok (.ifCond .ne 5, 3) := dk_154 0 5 (dk_at dksX8_isFollowed_3 11 rfl rfl)
theorem dX8_isFollowed_82 : decode cX8_isFollowed 82 = .ok (.iconst 0, 1) := dk_3 (dk_at dksX8_isFollowed_3 14 rfl rfl)
theorem dX8_isFollowed_83 : decode cX8_isFollowed 83 = .ok (.ireturn, 1) := dk_172 (dk_at dksX8_isFollowed_3 15 rfl rfl)
theorem dX8_isFollowed_84 : decode cX8_isFollowed 84 = .ok (.iinc 3 1, 3) := dk_132 3 1 (dk_at dksX8_isFollowed_3 16 rfl rfl)
theorem dX8_isFollowed_87 : decode cX8_isFollowed 87 = .ok (.goto (-72), 3) := dk_167 255 184 (dk_at dksX8_isFollowed_3 19 rfl rfl)
theorem dX8_isFollowed_90 : decode cX8_isFollowed 90 = .ok (.iconst 1, 1) := dk_4 (dk_at dksX8_isFollowed_3 22 rfl rfl)
theorem dX8_isFollowed_91 : decode cX8_isFollowed 91 = .ok (.ireturn, 1) := dk_172 (dk_at dksX8_isFollowed_3 23 rfl rfl)
abbrev cX8_upper : ByteArray := prog_29_method_62_code
def yX8_upper : MethodName := ⟨RX8, "upper", "()J"⟩
def dkwX8_upper_0 : List UInt8 := [42, 3, 181, 0, 76, 42, 180, 1, 72, 173]
abbrev dktX8_upper_0 : List UInt8 := dkwX8_upper_0 ++ []
theorem dksX8_upper_0 : cX8_upper.data.toList.drop 0 = dktX8_upper_0 := by decide +kernel
theorem dX8_upper_0 : decode cX8_upper 0 = .ok (.aload_n 0, 1) := dk_42 (dk_at dksX8_upper_0 0 rfl rfl)
theorem dX8_upper_1 : decode cX8_upper 1 = .ok (.iconst 0, 1) := dk_3 (dk_at dksX8_upper_0 1 rfl rfl)
theorem dX8_upper_2 : decode cX8_upper 2 = .ok (.putfield 76, 3) := dk_181 0 76 (dk_at dksX8_upper_0 2 rfl rfl)
theorem dX8_upper_5 : decode cX8_upper 5 = .ok (.aload_n 0, 1) := dk_42 (dk_at dksX8_upper_0 5 rfl rfl)
theorem dX8_upper_6 : decode cX8_upper 6 = .ok (.getfield 328, 3) := dk_180 1 72 (dk_at dksX8_upper_0 6 rfl rfl)
theorem dX8_upper_9 : decode cX8_upper 9 = .ok (.lreturn, 1) := dk_173 (dk_at dksX8_upper_0 9 rfl rfl)
abbrev cX8_lower : ByteArray := prog_29_method_63_code
def yX8_lower : MethodName := ⟨RX8, "lower", "()J"⟩
def dkwX8_lower_0 : List UInt8 := [42, 3, 181, 0, 76, 42, 180, 1, 76, 173]
abbrev dktX8_lower_0 : List UInt8 := dkwX8_lower_0 ++ []
theorem dksX8_lower_0 : cX8_lower.data.toList.drop 0 = dktX8_lower_0 := by decide +kernel
theorem dX8_lower_0 : decode cX8_lower 0 = .ok (.aload_n 0, 1) := dk_42 (dk_at dksX8_lower_0 0 rfl rfl)
theorem dX8_lower_1 : decode cX8_lower 1 = .ok (.iconst 0, 1) := dk_3 (dk_at dksX8_lower_0 1 rfl rfl)
theorem dX8_lower_2 : decode cX8_lower 2 = .ok (.putfield 76, 3) := dk_181 0 76 (dk_at dksX8_lower_0 2 rfl rfl)
theorem dX8_lower_5 : decode cX8_lower 5 = .ok (.aload_n 0, 1) := dk_42 (dk_at dksX8_lower_0 5 rfl rfl)
theorem dX8_lower_6 : decode cX8_lower 6 = .ok (.getfield 332, 3) := dk_180 1 76 (dk_at dksX8_lower_0 6 rfl rfl)
theorem dX8_lower_9 : decode cX8_lower 9 = .ok (.lreturn, 1) := dk_173 (dk_at dksX8_lower_0 9 rfl rfl)
abbrev cX8_passed : ByteArray := prog_29_method_65_code
def yX8_passed : MethodName := ⟨RX8, "passed", "(IIZ)Z"⟩
def dkwX8_passed_9 : List UInt8 := [22, 6, 9, 148, 154, 0, 5, 3, 172, 42, 22, 4, 22, 6, 182, 1, 84, 4, 172]
abbrev dktX8_passed_9 : List UInt8 := dkwX8_passed_9 ++ []
def dkwX8_passed_8 : List UInt8 := [22, 6, 42, 180, 0, 9, 21, 8, 5, 96, 46, 184, 1, 81, 133, 97, 55, 6, 132, 8, 3, 167, 255, 102]
abbrev dktX8_passed_8 : List UInt8 := dkwX8_passed_8 ++ dktX8_passed_9
def dkwX8_passed_7 : List UInt8 := [54, 10, 22, 4, 3, 29, 153, 0, 8, 21, 10, 167, 0, 6, 21, 10, 116, 184, 1, 5, 133, 97, 55, 4]
abbrev dktX8_passed_7 : List UInt8 := dkwX8_passed_7 ++ dktX8_passed_8
def dkwX8_passed_6 : List UInt8 := [167, 0, 66, 42, 27, 21, 9, 4, 100, 28, 96, 182, 1, 55, 42, 27, 21, 9, 4, 100, 182, 1, 55, 100]
abbrev dktX8_passed_6 : List UInt8 := dkwX8_passed_6 ++ dktX8_passed_7
def dkwX8_passed_5 : List UInt8 := [42, 21, 9, 4, 100, 182, 1, 52, 153, 0, 82, 42, 21, 9, 4, 100, 28, 96, 182, 1, 52, 154, 0, 6]
abbrev dktX8_passed_5 : List UInt8 := dkwX8_passed_5 ++ dktX8_passed_6
def dkwX8_passed_4 : List UInt8 := [160, 0, 114, 42, 180, 0, 9, 21, 8, 5, 96, 46, 158, 0, 7, 4, 167, 0, 4, 3, 29, 160, 0, 93]
abbrev dktX8_passed_4 : List UInt8 := dkwX8_passed_4 ++ dktX8_passed_5
def dkwX8_passed_3 : List UInt8 := [162, 0, 142, 42, 180, 0, 9, 21, 8, 4, 96, 46, 54, 9, 42, 180, 0, 9, 21, 8, 46, 27]
abbrev dktX8_passed_3 : List UInt8 := dkwX8_passed_3 ++ dktX8_passed_4
def dkwX8_passed_2 : List UInt8 := [55, 6, 17, 12, 77, 54, 8, 21, 8, 17, 12, 77, 6, 42, 180, 0, 9, 16, 6, 46, 104, 96]
abbrev dktX8_passed_2 : List UInt8 := dkwX8_passed_2 ++ dktX8_passed_3
def dkwX8_passed_1 : List UInt8 := [153, 0, 7, 3, 167, 0, 4, 5, 181, 0, 76, 42, 180, 0, 76, 158, 0, 5, 3, 172, 9, 55, 4, 9]
abbrev dktX8_passed_1 : List UInt8 := dkwX8_passed_1 ++ dktX8_passed_2
def dkwX8_passed_0 : List UInt8 := [42, 42, 27, 182, 0, 91, 154, 0, 7, 4, 167, 0, 20, 28, 133, 10, 20, 1, 79, 184, 0, 79]
abbrev dktX8_passed_0 : List UInt8 := dkwX8_passed_0 ++ dktX8_passed_1
theorem dksX8_passed_0 : cX8_passed.data.toList.drop 0 = dktX8_passed_0 := by decide +kernel
theorem dksX8_passed_1 : cX8_passed.data.toList.drop 22 = dktX8_passed_1 := dk_seg dksX8_passed_0 22 rfl rfl
theorem dksX8_passed_2 : cX8_passed.data.toList.drop 46 = dktX8_passed_2 := dk_seg dksX8_passed_1 24 rfl rfl
theorem dksX8_passed_3 : cX8_passed.data.toList.drop 68 = dktX8_passed_3 := dk_seg dksX8_passed_2 22 rfl rfl
theorem dksX8_passed_4 : cX8_passed.data.toList.drop 90 = dktX8_passed_4 := dk_seg dksX8_passed_3 22 rfl rfl
theorem dksX8_passed_5 : cX8_passed.data.toList.drop 114 = dktX8_passed_5 := dk_seg dksX8_passed_4 24 rfl rfl
theorem dksX8_passed_6 : cX8_passed.data.toList.drop 138 = dktX8_passed_6 := dk_seg dksX8_passed_5 24 rfl rfl
theorem dksX8_passed_7 : cX8_passed.data.toList.drop 162 = dktX8_passed_7 := dk_seg dksX8_passed_6 24 rfl rfl
theorem dksX8_passed_8 : cX8_passed.data.toList.drop 186 = dktX8_passed_8 := dk_seg dksX8_passed_7 24 rfl rfl
theorem dksX8_passed_9 : cX8_passed.data.toList.drop 210 = dktX8_passed_9 := dk_seg dksX8_passed_8 24 rfl rfl
theorem dX8_passed_0 : decode cX8_passed 0 = .ok (.aload_n 0, 1) := dk_42 (dk_at dksX8_passed_0 0 rfl rfl)
theorem dX8_passed_1 : decode cX8_passed 1 = .ok (.aload_n 0, 1) := dk_42 (dk_at dksX8_passed_0 1 rfl rfl)
theorem dX8_passed_2 : decode cX8_passed 2 = .ok (.iload_n 1, 1) := dk_27 (dk_at dksX8_passed_0 2 rfl rfl)
theorem dX8_passed_3 : decode cX8_passed 3 = .ok (.invokevirtual 91, 3) := dk_182 0 91 (dk_at dksX8_passed_0 3 rfl rfl)
theorem dX8_passed_6 : decode cX8_passed 6 = .ok (.ifCond .ne 7, 3) := dk_154 0 7 (dk_at dksX8_passed_0 6 rfl rfl)
theorem dX8_passed_9 : decode cX8_passed 9 = .ok (.iconst 1, 1) := dk_4 (dk_at dksX8_passed_0 9 rfl rfl)
theorem dX8_passed_10 : decode cX8_passed 10 = .ok (.goto 20, 3) := dk_167 0 20 (dk_at dksX8_passed_0 10 rfl rfl)
theorem dX8_passed_13 : decode cX8_passed 13 = .ok (.iload_n 2, 1) := dk_28 (dk_at dksX8_passed_0 13 rfl rfl)
theorem dX8_passed_14 : decode cX8_passed 14 = .ok (.i2l, 1) := dk_133 (dk_at dksX8_passed_0 14 rfl rfl)
theorem dX8_passed_15 : decode cX8_passed 15 = .ok (.lconst 1, 1) := dk_10 (dk_at dksX8_passed_0 15 rfl rfl)
theorem dX8_passed_16 : decode cX8_passed 16 = .ok (.ldc2_w 335, 3) := dk_20 1 79 (dk_at dksX8_passed_0 16 rfl rfl)
theorem dX8_passed_19 : decode cX8_passed 19 = .ok (.invokestatic 79, 3) := dk_184 0 79 (dk_at dksX8_passed_0 19 rfl rfl)
theorem dX8_passed_22 : decode cX8_passed 22 = .ok (.ifCond .eq 7, 3) := dk_153 0 7 (dk_at dksX8_passed_1 0 rfl rfl)
theorem dX8_passed_25 : decode cX8_passed 25 = .ok (.iconst 0, 1) := dk_3 (dk_at dksX8_passed_1 3 rfl rfl)
theorem dX8_passed_26 : decode cX8_passed 26 = .ok (.goto 4, 3) := dk_167 0 4 (dk_at dksX8_passed_1 4 rfl rfl)
theorem dX8_passed_29 : decode cX8_passed 29 = .ok (.iconst 2, 1) := dk_5 (dk_at dksX8_passed_1 7 rfl rfl)
theorem dX8_passed_30 : decode cX8_passed 30 = .ok (.putfield 76, 3) := dk_181 0 76 (dk_at dksX8_passed_1 8 rfl rfl)
theorem dX8_passed_33 : decode cX8_passed 33 = .ok (.aload_n 0, 1) := dk_42 (dk_at dksX8_passed_1 11 rfl rfl)
theorem dX8_passed_34 : decode cX8_passed 34 = .ok (.getfield 76, 3) := dk_180 0 76 (dk_at dksX8_passed_1 12 rfl rfl)
theorem dX8_passed_37 : decode cX8_passed 37 = .ok (.ifCond .le 5, 3) := dk_158 0 5 (dk_at dksX8_passed_1 15 rfl rfl)
theorem dX8_passed_40 : decode cX8_passed 40 = .ok (.iconst 0, 1) := dk_3 (dk_at dksX8_passed_1 18 rfl rfl)
theorem dX8_passed_41 : decode cX8_passed 41 = .ok (.ireturn, 1) := dk_172 (dk_at dksX8_passed_1 19 rfl rfl)
theorem dX8_passed_42 : decode cX8_passed 42 = .ok (.lconst 0, 1) := dk_9 (dk_at dksX8_passed_1 20 rfl rfl)
theorem dX8_passed_43 : decode cX8_passed 43 = .ok (.lstore 4, 2) := dk_55 4 (dk_at dksX8_passed_1 21 rfl rfl)
theorem dX8_passed_45 : decode cX8_passed 45 = .ok (.lconst 0, 1) := dk_9 (dk_at dksX8_passed_1 23 rfl rfl)
theorem dX8_passed_46 : decode cX8_passed 46 = .ok (.lstore 6, 2) := dk_55 6 (dk_at dksX8_passed_2 0 rfl rfl)
theorem dX8_passed_48 : decode cX8_passed 48 = .ok (.sipush 3149, 3) := dk_17 12 77 (dk_at dksX8_passed_2 2 rfl rfl)
theorem dX8_passed_51 : decode cX8_passed 51 = .ok (.istore 8, 2) := dk_54 8 (dk_at dksX8_passed_2 5 rfl rfl)
theorem dX8_passed_53 : decode cX8_passed 53 = .ok (.iload 8, 2) := dk_21 8 (dk_at dksX8_passed_2 7 rfl rfl)
theorem dX8_passed_55 : decode cX8_passed 55 = .ok (.sipush 3149, 3) := dk_17 12 77 (dk_at dksX8_passed_2 9 rfl rfl)
theorem dX8_passed_58 : decode cX8_passed 58 = .ok (.iconst 3, 1) := dk_6 (dk_at dksX8_passed_2 12 rfl rfl)
theorem dX8_passed_59 : decode cX8_passed 59 = .ok (.aload_n 0, 1) := dk_42 (dk_at dksX8_passed_2 13 rfl rfl)
theorem dX8_passed_60 : decode cX8_passed 60 = .ok (.getfield 9, 3) := dk_180 0 9 (dk_at dksX8_passed_2 14 rfl rfl)
theorem dX8_passed_63 : decode cX8_passed 63 = .ok (.bipush 6, 2) := dk_16 6 (dk_at dksX8_passed_2 17 rfl rfl)
theorem dX8_passed_65 : decode cX8_passed 65 = .ok (.iaload, 1) := dk_46 (dk_at dksX8_passed_2 19 rfl rfl)
theorem dX8_passed_66 : decode cX8_passed 66 = .ok (.imul, 1) := dk_104 (dk_at dksX8_passed_2 20 rfl rfl)
theorem dX8_passed_67 : decode cX8_passed 67 = .ok (.iadd, 1) := dk_96 (dk_at dksX8_passed_2 21 rfl rfl)
theorem dX8_passed_68 : decode cX8_passed 68 = .ok (.if_icmp .ge 142, 3) := dk_162 0 142 (dk_at dksX8_passed_3 0 rfl rfl)
theorem dX8_passed_71 : decode cX8_passed 71 = .ok (.aload_n 0, 1) := dk_42 (dk_at dksX8_passed_3 3 rfl rfl)
theorem dX8_passed_72 : decode cX8_passed 72 = .ok (.getfield 9, 3) := dk_180 0 9 (dk_at dksX8_passed_3 4 rfl rfl)
theorem dX8_passed_75 : decode cX8_passed 75 = .ok (.iload 8, 2) := dk_21 8 (dk_at dksX8_passed_3 7 rfl rfl)
theorem dX8_passed_77 : decode cX8_passed 77 = .ok (.iconst 1, 1) := dk_4 (dk_at dksX8_passed_3 9 rfl rfl)
theorem dX8_passed_78 : decode cX8_passed 78 = .ok (.iadd, 1) := dk_96 (dk_at dksX8_passed_3 10 rfl rfl)
theorem dX8_passed_79 : decode cX8_passed 79 = .ok (.iaload, 1) := dk_46 (dk_at dksX8_passed_3 11 rfl rfl)
theorem dX8_passed_80 : decode cX8_passed 80 = .ok (.istore 9, 2) := dk_54 9 (dk_at dksX8_passed_3 12 rfl rfl)
theorem dX8_passed_82 : decode cX8_passed 82 = .ok (.aload_n 0, 1) := dk_42 (dk_at dksX8_passed_3 14 rfl rfl)
theorem dX8_passed_83 : decode cX8_passed 83 = .ok (.getfield 9, 3) := dk_180 0 9 (dk_at dksX8_passed_3 15 rfl rfl)
theorem dX8_passed_86 : decode cX8_passed 86 = .ok (.iload 8, 2) := dk_21 8 (dk_at dksX8_passed_3 18 rfl rfl)
theorem dX8_passed_88 : decode cX8_passed 88 = .ok (.iaload, 1) := dk_46 (dk_at dksX8_passed_3 20 rfl rfl)
theorem dX8_passed_89 : decode cX8_passed 89 = .ok (.iload_n 1, 1) := dk_27 (dk_at dksX8_passed_3 21 rfl rfl)
theorem dX8_passed_90 : decode cX8_passed 90 = .ok (.if_icmp .ne 114, 3) := dk_160 0 114 (dk_at dksX8_passed_4 0 rfl rfl)
theorem dX8_passed_93 : decode cX8_passed 93 = .ok (.aload_n 0, 1) := dk_42 (dk_at dksX8_passed_4 3 rfl rfl)
theorem dX8_passed_94 : decode cX8_passed 94 = .ok (.getfield 9, 3) := dk_180 0 9 (dk_at dksX8_passed_4 4 rfl rfl)
theorem dX8_passed_97 : decode cX8_passed 97 = .ok (.iload 8, 2) := dk_21 8 (dk_at dksX8_passed_4 7 rfl rfl)
theorem dX8_passed_99 : decode cX8_passed 99 = .ok (.iconst 2, 1) := dk_5 (dk_at dksX8_passed_4 9 rfl rfl)
theorem dX8_passed_100 : decode cX8_passed 100 = .ok (.iadd, 1) := dk_96 (dk_at dksX8_passed_4 10 rfl rfl)
theorem dX8_passed_101 : decode cX8_passed 101 = .ok (.iaload, 1) := dk_46 (dk_at dksX8_passed_4 11 rfl rfl)
theorem dX8_passed_102 : decode cX8_passed 102 = .ok (.ifCond .le 7, 3) := dk_158 0 7 (dk_at dksX8_passed_4 12 rfl rfl)
theorem dX8_passed_105 : decode cX8_passed 105 = .ok (.iconst 1, 1) := dk_4 (dk_at dksX8_passed_4 15 rfl rfl)
theorem dX8_passed_106 : decode cX8_passed 106 = .ok (.goto 4, 3) := dk_167 0 4 (dk_at dksX8_passed_4 16 rfl rfl)
theorem dX8_passed_109 : decode cX8_passed 109 = .ok (.iconst 0, 1) := dk_3 (dk_at dksX8_passed_4 19 rfl rfl)
theorem dX8_passed_110 : decode cX8_passed 110 = .ok (.iload_n 3, 1) := dk_29 (dk_at dksX8_passed_4 20 rfl rfl)
theorem dX8_passed_111 : decode cX8_passed 111 = .ok (.if_icmp .ne 93, 3) := dk_160 0 93 (dk_at dksX8_passed_4 21 rfl rfl)
theorem dX8_passed_114 : decode cX8_passed 114 = .ok (.aload_n 0, 1) := dk_42 (dk_at dksX8_passed_5 0 rfl rfl)
theorem dX8_passed_115 : decode cX8_passed 115 = .ok (.iload 9, 2) := dk_21 9 (dk_at dksX8_passed_5 1 rfl rfl)
theorem dX8_passed_117 : decode cX8_passed 117 = .ok (.iconst 1, 1) := dk_4 (dk_at dksX8_passed_5 3 rfl rfl)
theorem dX8_passed_118 : decode cX8_passed 118 = .ok (.isub, 1) := dk_100 (dk_at dksX8_passed_5 4 rfl rfl)
theorem dX8_passed_119 : decode cX8_passed 119 = .ok (.invokevirtual 308, 3) := dk_182 1 52 (dk_at dksX8_passed_5 5 rfl rfl)
theorem dX8_passed_122 : decode cX8_passed 122 = .ok (.ifCond .eq 82, 3) := dk_153 0 82 (dk_at dksX8_passed_5 8 rfl rfl)
theorem dX8_passed_125 : decode cX8_passed 125 = .ok (.aload_n 0, 1) := dk_42 (dk_at dksX8_passed_5 11 rfl rfl)
theorem dX8_passed_126 : decode cX8_passed 126 = .ok (.iload 9, 2) := dk_21 9 (dk_at dksX8_passed_5 12 rfl rfl)
theorem dX8_passed_128 : decode cX8_passed 128 = .ok (.iconst 1, 1) := dk_4 (dk_at dksX8_passed_5 14 rfl rfl)
theorem dX8_passed_129 : decode cX8_passed 129 = .ok (.isub, 1) := dk_100 (dk_at dksX8_passed_5 15 rfl rfl)
theorem dX8_passed_130 : decode cX8_passed 130 = .ok (.iload_n 2, 1) := dk_28 (dk_at dksX8_passed_5 16 rfl rfl)
theorem dX8_passed_131 : decode cX8_passed 131 = .ok (.iadd, 1) := dk_96 (dk_at dksX8_passed_5 17 rfl rfl)
theorem dX8_passed_132 : decode cX8_passed 132 = .ok (.invokevirtual 308, 3) := dk_182 1 52 (dk_at dksX8_passed_5 18 rfl rfl)
theorem dX8_passed_135 : decode cX8_passed 135 = .ok (.ifCond .ne 6, 3) := dk_154 0 6 (dk_at dksX8_passed_5 21 rfl rfl)
theorem dX8_passed_138 : decode cX8_passed 138 = .ok (.goto 66, 3) := dk_167 0 66 (dk_at dksX8_passed_6 0 rfl rfl)
theorem dX8_passed_141 : decode cX8_passed 141 = .ok (.aload_n 0, 1) := dk_42 (dk_at dksX8_passed_6 3 rfl rfl)
theorem dX8_passed_142 : decode cX8_passed 142 = .ok (.iload_n 1, 1) := dk_27 (dk_at dksX8_passed_6 4 rfl rfl)
theorem dX8_passed_143 : decode cX8_passed 143 = .ok (.iload 9, 2) := dk_21 9 (dk_at dksX8_passed_6 5 rfl rfl)
theorem dX8_passed_145 : decode cX8_passed 145 = .ok (.iconst 1, 1) := dk_4 (dk_at dksX8_passed_6 7 rfl rfl)
theorem dX8_passed_146 : decode cX8_passed 146 = .ok (.isub, 1) := dk_100 (dk_at dksX8_passed_6 8 rfl rfl)
theorem dX8_passed_147 : decode cX8_passed 147 = .ok (.iload_n 2, 1) := dk_28 (dk_at dksX8_passed_6 9 rfl rfl)
theorem dX8_passed_148 : decode cX8_passed 148 = .ok (.iadd, 1) := dk_96 (dk_at dksX8_passed_6 10 rfl rfl)
theorem dX8_passed_149 : decode cX8_passed 149 = .ok (.invokevirtual 311, 3) := dk_182 1 55 (dk_at dksX8_passed_6 11 rfl rfl)
theorem dX8_passed_152 : decode cX8_passed 152 = .ok (.aload_n 0, 1) := dk_42 (dk_at dksX8_passed_6 14 rfl rfl)
theorem dX8_passed_153 : decode cX8_passed 153 = .ok (.iload_n 1, 1) := dk_27 (dk_at dksX8_passed_6 15 rfl rfl)
theorem dX8_passed_154 : decode cX8_passed 154 = .ok (.iload 9, 2) := dk_21 9 (dk_at dksX8_passed_6 16 rfl rfl)
theorem dX8_passed_156 : decode cX8_passed 156 = .ok (.iconst 1, 1) := dk_4 (dk_at dksX8_passed_6 18 rfl rfl)
theorem dX8_passed_157 : decode cX8_passed 157 = .ok (.isub, 1) := dk_100 (dk_at dksX8_passed_6 19 rfl rfl)
theorem dX8_passed_158 : decode cX8_passed 158 = .ok (.invokevirtual 311, 3) := dk_182 1 55 (dk_at dksX8_passed_6 20 rfl rfl)
theorem dX8_passed_161 : decode cX8_passed 161 = .ok (.isub, 1) := dk_100 (dk_at dksX8_passed_6 23 rfl rfl)
theorem dX8_passed_162 : decode cX8_passed 162 = .ok (.istore 10, 2) := dk_54 10 (dk_at dksX8_passed_7 0 rfl rfl)
theorem dX8_passed_164 : decode cX8_passed 164 = .ok (.lload 4, 2) := dk_22 4 (dk_at dksX8_passed_7 2 rfl rfl)
theorem dX8_passed_166 : decode cX8_passed 166 = .ok (.iconst 0, 1) := dk_3 (dk_at dksX8_passed_7 4 rfl rfl)
theorem dX8_passed_167 : decode cX8_passed 167 = .ok (.iload_n 3, 1) := dk_29 (dk_at dksX8_passed_7 5 rfl rfl)
theorem dX8_passed_168 : decode cX8_passed 168 = .ok (.ifCond .eq 8, 3) := dk_153 0 8 (dk_at dksX8_passed_7 6 rfl rfl)
theorem dX8_passed_171 : decode cX8_passed 171 = .ok (.iload 10, 2) := dk_21 10 (dk_at dksX8_passed_7 9 rfl rfl)
theorem dX8_passed_173 : decode cX8_passed 173 = .ok (.goto 6, 3) := dk_167 0 6 (dk_at dksX8_passed_7 11 rfl rfl)
theorem dX8_passed_176 : decode cX8_passed 176 = .ok (.iload 10, 2) := dk_21 10 (dk_at dksX8_passed_7 14 rfl rfl)
theorem dX8_passed_178 : decode cX8_passed 178 = .ok (.ineg, 1) := dk_116 (dk_at dksX8_passed_7 16 rfl rfl)
theorem dX8_passed_179 : decode cX8_passed 179 = .ok (.invokestatic 261, 3) := dk_184 1 5 (dk_at dksX8_passed_7 17 rfl rfl)
theorem dX8_passed_182 : decode cX8_passed 182 = .ok (.i2l, 1) := dk_133 (dk_at dksX8_passed_7 20 rfl rfl)
theorem dX8_passed_183 : decode cX8_passed 183 = .ok (.ladd, 1) := dk_97 (dk_at dksX8_passed_7 21 rfl rfl)
theorem dX8_passed_184 : decode cX8_passed 184 = .ok (.lstore 4, 2) := dk_55 4 (dk_at dksX8_passed_7 22 rfl rfl)
theorem dX8_passed_186 : decode cX8_passed 186 = .ok (.lload 6, 2) := dk_22 6 (dk_at dksX8_passed_8 0 rfl rfl)
theorem dX8_passed_188 : decode cX8_passed 188 = .ok (.aload_n 0, 1) := dk_42 (dk_at dksX8_passed_8 2 rfl rfl)
theorem dX8_passed_189 : decode cX8_passed 189 = .ok (.getfield 9, 3) := dk_180 0 9 (dk_at dksX8_passed_8 3 rfl rfl)
theorem dX8_passed_192 : decode cX8_passed 192 = .ok (.iload 8, 2) := dk_21 8 (dk_at dksX8_passed_8 6 rfl rfl)
theorem dX8_passed_194 : decode cX8_passed 194 = .ok (.iconst 2, 1) := dk_5 (dk_at dksX8_passed_8 8 rfl rfl)
theorem dX8_passed_195 : decode cX8_passed 195 = .ok (.iadd, 1) := dk_96 (dk_at dksX8_passed_8 9 rfl rfl)
theorem dX8_passed_196 : decode cX8_passed 196 = .ok (.iaload, 1) := dk_46 (dk_at dksX8_passed_8 10 rfl rfl)
theorem dX8_passed_197 : decode cX8_passed 197 = .ok (.invokestatic 337, 3) := dk_184 1 81 (dk_at dksX8_passed_8 11 rfl rfl)
theorem dX8_passed_200 : decode cX8_passed 200 = .ok (.i2l, 1) := dk_133 (dk_at dksX8_passed_8 14 rfl rfl)
theorem dX8_passed_201 : decode cX8_passed 201 = .ok (.ladd, 1) := dk_97 (dk_at dksX8_passed_8 15 rfl rfl)
theorem dX8_passed_202 : decode cX8_passed 202 = .ok (.lstore 6, 2) := dk_55 6 (dk_at dksX8_passed_8 16 rfl rfl)
theorem dX8_passed_204 : decode cX8_passed 204 = .ok (.iinc 8 3, 3) := dk_132 8 3 (dk_at dksX8_passed_8 18 rfl rfl)
theorem dX8_passed_207 : decode cX8_passed 207 = .ok (.goto (-154), 3) := dk_167 255 102 (dk_at dksX8_passed_8 21 rfl rfl)
theorem dX8_passed_210 : decode cX8_passed 210 = .ok (.lload 6, 2) := dk_22 6 (dk_at dksX8_passed_9 0 rfl rfl)
theorem dX8_passed_212 : decode cX8_passed 212 = .ok (.lconst 0, 1) := dk_9 (dk_at dksX8_passed_9 2 rfl rfl)
theorem dX8_passed_213 : decode cX8_passed 213 = .ok (.lcmp, 1) := dk_148 (dk_at dksX8_passed_9 3 rfl rfl)
theorem dX8_passed_214 : decode cX8_passed 214 = .ok (.ifCond .ne 5, 3) := dk_154 0 5 (dk_at dksX8_passed_9 4 rfl rfl)
theorem dX8_passed_217 : decode cX8_passed 217 = .ok (.iconst 0, 1) := dk_3 (dk_at dksX8_passed_9 7 rfl rfl)
theorem dX8_passed_218 : decode cX8_passed 218 = .ok (.ireturn, 1) := dk_172 (dk_at dksX8_passed_9 8 rfl rfl)
theorem dX8_passed_219 : decode cX8_passed 219 = .ok (.aload_n 0, 1) := dk_42 (dk_at dksX8_passed_9 9 rfl rfl)
theorem dX8_passed_220 : decode cX8_passed 220 = .ok (.lload 4, 2) := dk_22 4 (dk_at dksX8_passed_9 10 rfl rfl)
theorem dX8_passed_222 : decode cX8_passed 222 = .ok (.lload 6, 2) := dk_22 6 (dk_at dksX8_passed_9 12 rfl rfl)
theorem dX8_passed_224 : decode cX8_passed 224 = .ok (.invokevirtual 340, 3) := dk_182 1 84 (dk_at dksX8_passed_9 14 rfl rfl)
theorem dX8_passed_227 : decode cX8_passed 227 = .ok (.iconst 1, 1) := dk_4 (dk_at dksX8_passed_9 17 rfl rfl)
theorem dX8_passed_228 : decode cX8_passed 228 = .ok (.ireturn, 1) := dk_172 (dk_at dksX8_passed_9 18 rfl rfl)
abbrev cX8_fraction : ByteArray := prog_29_method_64_code
def yX8_fraction : MethodName := ⟨RX8, "fraction", "(JJ)V"⟩
def dkwX8_fraction_2 : List UInt8 := [181, 1, 72, 42, 22, 5, 9, 148, 154, 0, 7, 9, 167, 0, 7, 33, 22, 5, 109, 181, 1, 76, 177]
abbrev dktX8_fraction_2 : List UInt8 := dkwX8_fraction_2 ++ []
def dkwX8_fraction_1 : List UInt8 := [22, 9, 55, 7, 167, 255, 234, 42, 22, 5, 9, 148, 154, 0, 7, 9, 167, 0, 7, 31, 22, 5, 109]
abbrev dktX8_fraction_1 : List UInt8 := dkwX8_fraction_1 ++ dktX8_fraction_2
def dkwX8_fraction_0 : List UInt8 := [31, 55, 5, 33, 55, 7, 22, 7, 9, 148, 153, 0, 21, 22, 5, 22, 7, 113, 55, 9, 22, 7, 55, 5]
abbrev dktX8_fraction_0 : List UInt8 := dkwX8_fraction_0 ++ dktX8_fraction_1
theorem dksX8_fraction_0 : cX8_fraction.data.toList.drop 0 = dktX8_fraction_0 := by decide +kernel
theorem dksX8_fraction_1 : cX8_fraction.data.toList.drop 24 = dktX8_fraction_1 := dk_seg dksX8_fraction_0 24 rfl rfl
theorem dksX8_fraction_2 : cX8_fraction.data.toList.drop 47 = dktX8_fraction_2 := dk_seg dksX8_fraction_1 23 rfl rfl
theorem dX8_fraction_0 : decode cX8_fraction 0 = .ok (.lload_n 1, 1) := dk_31 (dk_at dksX8_fraction_0 0 rfl rfl)
theorem dX8_fraction_1 : decode cX8_fraction 1 = .ok (.lstore 5, 2) := dk_55 5 (dk_at dksX8_fraction_0 1 rfl rfl)
theorem dX8_fraction_3 : decode cX8_fraction 3 = .ok (.lload_n 3, 1) := dk_33 (dk_at dksX8_fraction_0 3 rfl rfl)
theorem dX8_fraction_4 : decode cX8_fraction 4 = .ok (.lstore 7, 2) := dk_55 7 (dk_at dksX8_fraction_0 4 rfl rfl)
theorem dX8_fraction_6 : decode cX8_fraction 6 = .ok (.lload 7, 2) := dk_22 7 (dk_at dksX8_fraction_0 6 rfl rfl)
theorem dX8_fraction_8 : decode cX8_fraction 8 = .ok (.lconst 0, 1) := dk_9 (dk_at dksX8_fraction_0 8 rfl rfl)
theorem dX8_fraction_9 : decode cX8_fraction 9 = .ok (.lcmp, 1) := dk_148 (dk_at dksX8_fraction_0 9 rfl rfl)
theorem dX8_fraction_10 : decode cX8_fraction 10 = .ok (.ifCond .eq 21, 3) := dk_153 0 21 (dk_at dksX8_fraction_0 10 rfl rfl)
theorem dX8_fraction_13 : decode cX8_fraction 13 = .ok (.lload 5, 2) := dk_22 5 (dk_at dksX8_fraction_0 13 rfl rfl)
theorem dX8_fraction_15 : decode cX8_fraction 15 = .ok (.lload 7, 2) := dk_22 7 (dk_at dksX8_fraction_0 15 rfl rfl)
theorem dX8_fraction_17 : decode cX8_fraction 17 = .ok (.lrem, 1) := dk_113 (dk_at dksX8_fraction_0 17 rfl rfl)
theorem dX8_fraction_18 : decode cX8_fraction 18 = .ok (.lstore 9, 2) := dk_55 9 (dk_at dksX8_fraction_0 18 rfl rfl)
theorem dX8_fraction_20 : decode cX8_fraction 20 = .ok (.lload 7, 2) := dk_22 7 (dk_at dksX8_fraction_0 20 rfl rfl)
theorem dX8_fraction_22 : decode cX8_fraction 22 = .ok (.lstore 5, 2) := dk_55 5 (dk_at dksX8_fraction_0 22 rfl rfl)
theorem dX8_fraction_24 : decode cX8_fraction 24 = .ok (.lload 9, 2) := dk_22 9 (dk_at dksX8_fraction_1 0 rfl rfl)
theorem dX8_fraction_26 : decode cX8_fraction 26 = .ok (.lstore 7, 2) := dk_55 7 (dk_at dksX8_fraction_1 2 rfl rfl)
theorem dX8_fraction_28 : decode cX8_fraction 28 = .ok (.goto (-22), 3) := dk_167 255 234 (dk_at dksX8_fraction_1 4 rfl rfl)
theorem dX8_fraction_31 : decode cX8_fraction 31 = .ok (.aload_n 0, 1) := dk_42 (dk_at dksX8_fraction_1 7 rfl rfl)
theorem dX8_fraction_32 : decode cX8_fraction 32 = .ok (.lload 5, 2) := dk_22 5 (dk_at dksX8_fraction_1 8 rfl rfl)
theorem dX8_fraction_34 : decode cX8_fraction 34 = .ok (.lconst 0, 1) := dk_9 (dk_at dksX8_fraction_1 10 rfl rfl)
theorem dX8_fraction_35 : decode cX8_fraction 35 = .ok (.lcmp, 1) := dk_148 (dk_at dksX8_fraction_1 11 rfl rfl)
theorem dX8_fraction_36 : decode cX8_fraction 36 = .ok (.ifCond .ne 7, 3) := dk_154 0 7 (dk_at dksX8_fraction_1 12 rfl rfl)
theorem dX8_fraction_39 : decode cX8_fraction 39 = .ok (.lconst 0, 1) := dk_9 (dk_at dksX8_fraction_1 15 rfl rfl)
theorem dX8_fraction_40 : decode cX8_fraction 40 = .ok (.goto 7, 3) := dk_167 0 7 (dk_at dksX8_fraction_1 16 rfl rfl)
theorem dX8_fraction_43 : decode cX8_fraction 43 = .ok (.lload_n 1, 1) := dk_31 (dk_at dksX8_fraction_1 19 rfl rfl)
theorem dX8_fraction_44 : decode cX8_fraction 44 = .ok (.lload 5, 2) := dk_22 5 (dk_at dksX8_fraction_1 20 rfl rfl)
theorem dX8_fraction_46 : decode cX8_fraction 46 = .ok (.ldiv, 1) := dk_109 (dk_at dksX8_fraction_1 22 rfl rfl)
theorem dX8_fraction_47 : decode cX8_fraction 47 = .ok (.putfield 328, 3) := dk_181 1 72 (dk_at dksX8_fraction_2 0 rfl rfl)
theorem dX8_fraction_50 : decode cX8_fraction 50 = .ok (.aload_n 0, 1) := dk_42 (dk_at dksX8_fraction_2 3 rfl rfl)
theorem dX8_fraction_51 : decode cX8_fraction 51 = .ok (.lload 5, 2) := dk_22 5 (dk_at dksX8_fraction_2 4 rfl rfl)
theorem dX8_fraction_53 : decode cX8_fraction 53 = .ok (.lconst 0, 1) := dk_9 (dk_at dksX8_fraction_2 6 rfl rfl)
theorem dX8_fraction_54 : decode cX8_fraction 54 = .ok (.lcmp, 1) := dk_148 (dk_at dksX8_fraction_2 7 rfl rfl)
theorem dX8_fraction_55 : decode cX8_fraction 55 = .ok (.ifCond .ne 7, 3) := dk_154 0 7 (dk_at dksX8_fraction_2 8 rfl rfl)
theorem dX8_fraction_58 : decode cX8_fraction 58 = .ok (.lconst 0, 1) := dk_9 (dk_at dksX8_fraction_2 11 rfl rfl)
theorem dX8_fraction_59 : decode cX8_fraction 59 = .ok (.goto 7, 3) := dk_167 0 7 (dk_at dksX8_fraction_2 12 rfl rfl)
theorem dX8_fraction_62 : decode cX8_fraction 62 = .ok (.lload_n 3, 1) := dk_33 (dk_at dksX8_fraction_2 15 rfl rfl)
theorem dX8_fraction_63 : decode cX8_fraction 63 = .ok (.lload 5, 2) := dk_22 5 (dk_at dksX8_fraction_2 16 rfl rfl)
theorem dX8_fraction_65 : decode cX8_fraction 65 = .ok (.ldiv, 1) := dk_109 (dk_at dksX8_fraction_2 18 rfl rfl)
theorem dX8_fraction_66 : decode cX8_fraction 66 = .ok (.putfield 332, 3) := dk_181 1 76 (dk_at dksX8_fraction_2 19 rfl rfl)
theorem dX8_fraction_69 : decode cX8_fraction 69 = .ok (.return_, 1) := dk_177 (dk_at dksX8_fraction_2 22 rfl rfl)
abbrev cX8_level : ByteArray := prog_29_method_71_code
def yX8_level : MethodName := ⟨RX8, "level", "(I)I"⟩
def dkwX8_level_3 : List UInt8 := [180, 0, 9, 6, 92, 46, 4, 96, 79, 28, 172]
abbrev dktX8_level_3 : List UInt8 := dkwX8_level_3 ++ []
def dkwX8_level_2 : List UInt8 := [182, 0, 83, 172, 28, 16, 8, 160, 0, 5, 2, 172, 42, 180, 0, 9, 16, 52, 28, 96, 27, 79, 42]
abbrev dktX8_level_2 : List UInt8 := dkwX8_level_2 ++ dktX8_level_3
def dkwX8_level_1 : List UInt8 := [180, 0, 9, 16, 52, 28, 96, 4, 100, 46, 4, 96, 133, 20, 0, 87, 184, 0, 79, 154, 0, 9, 42, 4]
abbrev dktX8_level_1 : List UInt8 := dkwX8_level_1 ++ dktX8_level_2
def dkwX8_level_0 : List UInt8 := [42, 3, 181, 0, 76, 42, 180, 0, 9, 6, 46, 61, 27, 133, 28, 154, 0, 7, 9, 167, 0, 17, 42]
abbrev dktX8_level_0 : List UInt8 := dkwX8_level_0 ++ dktX8_level_1
theorem dksX8_level_0 : cX8_level.data.toList.drop 0 = dktX8_level_0 := by decide +kernel
theorem dksX8_level_1 : cX8_level.data.toList.drop 23 = dktX8_level_1 := dk_seg dksX8_level_0 23 rfl rfl
theorem dksX8_level_2 : cX8_level.data.toList.drop 47 = dktX8_level_2 := dk_seg dksX8_level_1 24 rfl rfl
theorem dksX8_level_3 : cX8_level.data.toList.drop 70 = dktX8_level_3 := dk_seg dksX8_level_2 23 rfl rfl
theorem dX8_level_0 : decode cX8_level 0 = .ok (.aload_n 0, 1) := dk_42 (dk_at dksX8_level_0 0 rfl rfl)
theorem dX8_level_1 : decode cX8_level 1 = .ok (.iconst 0, 1) := dk_3 (dk_at dksX8_level_0 1 rfl rfl)
theorem dX8_level_2 : decode cX8_level 2 = .ok (.putfield 76, 3) := dk_181 0 76 (dk_at dksX8_level_0 2 rfl rfl)
theorem dX8_level_5 : decode cX8_level 5 = .ok (.aload_n 0, 1) := dk_42 (dk_at dksX8_level_0 5 rfl rfl)
theorem dX8_level_6 : decode cX8_level 6 = .ok (.getfield 9, 3) := dk_180 0 9 (dk_at dksX8_level_0 6 rfl rfl)
theorem dX8_level_9 : decode cX8_level 9 = .ok (.iconst 3, 1) := dk_6 (dk_at dksX8_level_0 9 rfl rfl)
theorem dX8_level_10 : decode cX8_level 10 = .ok (.iaload, 1) := dk_46 (dk_at dksX8_level_0 10 rfl rfl)
theorem dX8_level_11 : decode cX8_level 11 = .ok (.istore_n 2, 1) := dk_61 (dk_at dksX8_level_0 11 rfl rfl)
theorem dX8_level_12 : decode cX8_level 12 = .ok (.iload_n 1, 1) := dk_27 (dk_at dksX8_level_0 12 rfl rfl)
theorem dX8_level_13 : decode cX8_level 13 = .ok (.i2l, 1) := dk_133 (dk_at dksX8_level_0 13 rfl rfl)
theorem dX8_level_14 : decode cX8_level 14 = .ok (.iload_n 2, 1) := dk_28 (dk_at dksX8_level_0 14 rfl rfl)
theorem dX8_level_15 : decode cX8_level 15 = .ok (.ifCond .ne 7, 3) := dk_154 0 7 (dk_at dksX8_level_0 15 rfl rfl)
theorem dX8_level_18 : decode cX8_level 18 = .ok (.lconst 0, 1) := dk_9 (dk_at dksX8_level_0 18 rfl rfl)
theorem dX8_level_19 : decode cX8_level 19 = .ok (.goto 17, 3) := dk_167 0 17 (dk_at dksX8_level_0 19 rfl rfl)
theorem dX8_level_22 : decode cX8_level 22 = .ok (.aload_n 0, 1) := dk_42 (dk_at dksX8_level_0 22 rfl rfl)
theorem dX8_level_23 : decode cX8_level 23 = .ok (.getfield 9, 3) := dk_180 0 9 (dk_at dksX8_level_1 0 rfl rfl)
theorem dX8_level_26 : decode cX8_level 26 = .ok (.bipush 52, 2) := dk_16 52 (dk_at dksX8_level_1 3 rfl rfl)
theorem dX8_level_28 : decode cX8_level 28 = .ok (.iload_n 2, 1) := dk_28 (dk_at dksX8_level_1 5 rfl rfl)
theorem dX8_level_29 : decode cX8_level 29 = .ok (.iadd, 1) := dk_96 (dk_at dksX8_level_1 6 rfl rfl)
theorem dX8_level_30 : decode cX8_level 30 = .ok (.iconst 1, 1) := dk_4 (dk_at dksX8_level_1 7 rfl rfl)
theorem dX8_level_31 : decode cX8_level 31 = .ok (.isub, 1) := dk_100 (dk_at dksX8_level_1 8 rfl rfl)
theorem dX8_level_32 : decode cX8_level 32 = .ok (.iaload, 1) := dk_46 (dk_at dksX8_level_1 9 rfl rfl)
theorem dX8_level_33 : decode cX8_level 33 = .ok (.iconst 1, 1) := dk_4 (dk_at dksX8_level_1 10 rfl rfl)
theorem dX8_level_34 : decode cX8_level 34 = .ok (.iadd, 1) := dk_96 (dk_at dksX8_level_1 11 rfl rfl)
theorem dX8_level_35 : decode cX8_level 35 = .ok (.i2l, 1) := dk_133 (dk_at dksX8_level_1 12 rfl rfl)
theorem dX8_level_36 : decode cX8_level 36 = .ok (.ldc2_w 87, 3) := dk_20 0 87 (dk_at dksX8_level_1 13 rfl rfl)
theorem dX8_level_39 : decode cX8_level 39 = .ok (.invokestatic 79, 3) := dk_184 0 79 (dk_at dksX8_level_1 16 rfl rfl)
theorem dX8_level_42 : decode cX8_level 42 = .ok (.ifCond .ne 9, 3) := dk_154 0 9 (dk_at dksX8_level_1 19 rfl rfl)
theorem dX8_level_45 : decode cX8_level 45 = .ok (.aload_n 0, 1) := dk_42 (dk_at dksX8_level_1 22 rfl rfl)
theorem dX8_level_46 : decode cX8_level 46 = .ok (.iconst 1, 1) := dk_4 (dk_at dksX8_level_1 23 rfl rfl)
theorem dX8_level_47 : decode cX8_level 47 = .ok (.invokevirtual 83, 3) := dk_182 0 83 (dk_at dksX8_level_2 0 rfl rfl)
theorem dX8_level_50 : decode cX8_level 50 = .ok (.ireturn, 1) := dk_172 (dk_at dksX8_level_2 3 rfl rfl)
theorem dX8_level_51 : decode cX8_level 51 = .ok (.iload_n 2, 1) := dk_28 (dk_at dksX8_level_2 4 rfl rfl)
theorem dX8_level_52 : decode cX8_level 52 = .ok (.bipush 8, 2) := dk_16 8 (dk_at dksX8_level_2 5 rfl rfl)
theorem dX8_level_54 : decode cX8_level 54 = .ok (.if_icmp .ne 5, 3) := dk_160 0 5 (dk_at dksX8_level_2 7 rfl rfl)
theorem dX8_level_57 : decode cX8_level 57 = .ok (.iconst (-1), 1) := dk_2 (dk_at dksX8_level_2 10 rfl rfl)
theorem dX8_level_58 : decode cX8_level 58 = .ok (.ireturn, 1) := dk_172 (dk_at dksX8_level_2 11 rfl rfl)
theorem dX8_level_59 : decode cX8_level 59 = .ok (.aload_n 0, 1) := dk_42 (dk_at dksX8_level_2 12 rfl rfl)
theorem dX8_level_60 : decode cX8_level 60 = .ok (.getfield 9, 3) := dk_180 0 9 (dk_at dksX8_level_2 13 rfl rfl)
theorem dX8_level_63 : decode cX8_level 63 = .ok (.bipush 52, 2) := dk_16 52 (dk_at dksX8_level_2 16 rfl rfl)
theorem dX8_level_65 : decode cX8_level 65 = .ok (.iload_n 2, 1) := dk_28 (dk_at dksX8_level_2 18 rfl rfl)
theorem dX8_level_66 : decode cX8_level 66 = .ok (.iadd, 1) := dk_96 (dk_at dksX8_level_2 19 rfl rfl)
theorem dX8_level_67 : decode cX8_level 67 = .ok (.iload_n 1, 1) := dk_27 (dk_at dksX8_level_2 20 rfl rfl)
theorem dX8_level_68 : decode cX8_level 68 = .ok (.iastore, 1) := dk_79 (dk_at dksX8_level_2 21 rfl rfl)
theorem dX8_level_69 : decode cX8_level 69 = .ok (.aload_n 0, 1) := dk_42 (dk_at dksX8_level_2 22 rfl rfl)
theorem dX8_level_70 : decode cX8_level 70 = .ok (.getfield 9, 3) := dk_180 0 9 (dk_at dksX8_level_3 0 rfl rfl)
theorem dX8_level_73 : decode cX8_level 73 = .ok (.iconst 3, 1) := dk_6 (dk_at dksX8_level_3 3 rfl rfl)
theorem dX8_level_74 : decode cX8_level 74 = .ok (.dup2, 1) := dk_92 (dk_at dksX8_level_3 4 rfl rfl)
theorem dX8_level_75 : decode cX8_level 75 = .ok (.iaload, 1) := dk_46 (dk_at dksX8_level_3 5 rfl rfl)
theorem dX8_level_76 : decode cX8_level 76 = .ok (.iconst 1, 1) := dk_4 (dk_at dksX8_level_3 6 rfl rfl)
theorem dX8_level_77 : decode cX8_level 77 = .ok (.iadd, 1) := dk_96 (dk_at dksX8_level_3 7 rfl rfl)
theorem dX8_level_78 : decode cX8_level 78 = .ok (.iastore, 1) := dk_79 (dk_at dksX8_level_3 8 rfl rfl)
theorem dX8_level_79 : decode cX8_level 79 = .ok (.iload_n 2, 1) := dk_28 (dk_at dksX8_level_3 9 rfl rfl)
theorem dX8_level_80 : decode cX8_level 80 = .ok (.ireturn, 1) := dk_172 (dk_at dksX8_level_3 10 rfl rfl)
abbrev cX8_gain : ByteArray := prog_29_method_72_code
def yX8_gain : MethodName := ⟨RX8, "gain", "(IIIIZ)I"⟩
def dkwX8_gain_2 : List UInt8 := [42, 29, 21, 4, 21, 5, 182, 1, 100, 172]
abbrev dktX8_gain_2 : List UInt8 := dkwX8_gain_2 ++ []
def dkwX8_gain_1 : List UInt8 := [153, 0, 12, 42, 21, 4, 182, 1, 94, 154, 0, 9, 42, 6, 182, 0, 83, 172, 42, 27, 28, 182, 1, 97]
abbrev dktX8_gain_1 : List UInt8 := dkwX8_gain_1 ++ dktX8_gain_2
def dkwX8_gain_0 : List UInt8 := [42, 42, 27, 28, 182, 1, 91, 181, 0, 76, 42, 180, 0, 76, 158, 0, 5, 3, 172, 42, 29, 182, 1, 94]
abbrev dktX8_gain_0 : List UInt8 := dkwX8_gain_0 ++ dktX8_gain_1
theorem dksX8_gain_0 : cX8_gain.data.toList.drop 0 = dktX8_gain_0 := by decide +kernel
theorem dksX8_gain_1 : cX8_gain.data.toList.drop 24 = dktX8_gain_1 := dk_seg dksX8_gain_0 24 rfl rfl
theorem dksX8_gain_2 : cX8_gain.data.toList.drop 48 = dktX8_gain_2 := dk_seg dksX8_gain_1 24 rfl rfl
theorem dX8_gain_0 : decode cX8_gain 0 = .ok (.aload_n 0, 1) := dk_42 (dk_at dksX8_gain_0 0 rfl rfl)
theorem dX8_gain_1 : decode cX8_gain 1 = .ok (.aload_n 0, 1) := dk_42 (dk_at dksX8_gain_0 1 rfl rfl)
theorem dX8_gain_2 : decode cX8_gain 2 = .ok (.iload_n 1, 1) := dk_27 (dk_at dksX8_gain_0 2 rfl rfl)
theorem dX8_gain_3 : decode cX8_gain 3 = .ok (.iload_n 2, 1) := dk_28 (dk_at dksX8_gain_0 3 rfl rfl)
theorem dX8_gain_4 : decode cX8_gain 4 = .ok (.invokevirtual 347, 3) := dk_182 1 91 (dk_at dksX8_gain_0 4 rfl rfl)
theorem dX8_gain_7 : decode cX8_gain 7 = .ok (.putfield 76, 3) := dk_181 0 76 (dk_at dksX8_gain_0 7 rfl rfl)
theorem dX8_gain_10 : decode cX8_gain 10 = .ok (.aload_n 0, 1) := dk_42 (dk_at dksX8_gain_0 10 rfl rfl)
theorem dX8_gain_11 : decode cX8_gain 11 = .ok (.getfield 76, 3) := dk_180 0 76 (dk_at dksX8_gain_0 11 rfl rfl)
theorem dX8_gain_14 : decode cX8_gain 14 = .ok (.ifCond .le 5, 3) := dk_158 0 5 (dk_at dksX8_gain_0 14 rfl rfl)
theorem dX8_gain_17 : decode cX8_gain 17 = .ok (.iconst 0, 1) := dk_3 (dk_at dksX8_gain_0 17 rfl rfl)
theorem dX8_gain_18 : decode cX8_gain 18 = .ok (.ireturn, 1) := dk_172 (dk_at dksX8_gain_0 18 rfl rfl)
theorem dX8_gain_19 : decode cX8_gain 19 = .ok (.aload_n 0, 1) := dk_42 (dk_at dksX8_gain_0 19 rfl rfl)
theorem dX8_gain_20 : decode cX8_gain 20 = .ok (.iload_n 3, 1) := dk_29 (dk_at dksX8_gain_0 20 rfl rfl)
theorem dX8_gain_21 : decode cX8_gain 21 = .ok (.invokevirtual 350, 3) := dk_182 1 94 (dk_at dksX8_gain_0 21 rfl rfl)
theorem dX8_gain_24 : decode cX8_gain 24 = .ok (.ifCond .eq 12, 3) := dk_153 0 12 (dk_at dksX8_gain_1 0 rfl rfl)
theorem dX8_gain_27 : decode cX8_gain 27 = .ok (.aload_n 0, 1) := dk_42 (dk_at dksX8_gain_1 3 rfl rfl)
theorem dX8_gain_28 : decode cX8_gain 28 = .ok (.iload 4, 2) := dk_21 4 (dk_at dksX8_gain_1 4 rfl rfl)
theorem dX8_gain_30 : decode cX8_gain 30 = .ok (.invokevirtual 350, 3) := dk_182 1 94 (dk_at dksX8_gain_1 6 rfl rfl)
theorem dX8_gain_33 : decode cX8_gain 33 = .ok (.ifCond .ne 9, 3) := dk_154 0 9 (dk_at dksX8_gain_1 9 rfl rfl)
theorem dX8_gain_36 : decode cX8_gain 36 = .ok (.aload_n 0, 1) := dk_42 (dk_at dksX8_gain_1 12 rfl rfl)
theorem dX8_gain_37 : decode cX8_gain 37 = .ok (.iconst 3, 1) := dk_6 (dk_at dksX8_gain_1 13 rfl rfl)
theorem dX8_gain_38 : decode cX8_gain 38 = .ok (.invokevirtual 83, 3) := dk_182 0 83 (dk_at dksX8_gain_1 14 rfl rfl)
theorem dX8_gain_41 : decode cX8_gain 41 = .ok (.ireturn, 1) := dk_172 (dk_at dksX8_gain_1 17 rfl rfl)
theorem dX8_gain_42 : decode cX8_gain 42 = .ok (.aload_n 0, 1) := dk_42 (dk_at dksX8_gain_1 18 rfl rfl)
theorem dX8_gain_43 : decode cX8_gain 43 = .ok (.iload_n 1, 1) := dk_27 (dk_at dksX8_gain_1 19 rfl rfl)
theorem dX8_gain_44 : decode cX8_gain 44 = .ok (.iload_n 2, 1) := dk_28 (dk_at dksX8_gain_1 20 rfl rfl)
theorem dX8_gain_45 : decode cX8_gain 45 = .ok (.invokevirtual 353, 3) := dk_182 1 97 (dk_at dksX8_gain_1 21 rfl rfl)
theorem dX8_gain_48 : decode cX8_gain 48 = .ok (.aload_n 0, 1) := dk_42 (dk_at dksX8_gain_2 0 rfl rfl)
theorem dX8_gain_49 : decode cX8_gain 49 = .ok (.iload_n 3, 1) := dk_29 (dk_at dksX8_gain_2 1 rfl rfl)
theorem dX8_gain_50 : decode cX8_gain 50 = .ok (.iload 4, 2) := dk_21 4 (dk_at dksX8_gain_2 2 rfl rfl)
theorem dX8_gain_52 : decode cX8_gain 52 = .ok (.iload 5, 2) := dk_21 5 (dk_at dksX8_gain_2 4 rfl rfl)
theorem dX8_gain_54 : decode cX8_gain 54 = .ok (.invokevirtual 356, 3) := dk_182 1 100 (dk_at dksX8_gain_2 6 rfl rfl)
theorem dX8_gain_57 : decode cX8_gain 57 = .ok (.ireturn, 1) := dk_172 (dk_at dksX8_gain_2 9 rfl rfl)
abbrev cX8_pairFault : ByteArray := prog_29_method_70_code
def yX8_pairFault : MethodName := ⟨RX8, "pairFault", "(II)I"⟩
def dkwX8_pairFault_1 : List UInt8 := [160, 0, 7, 5, 167, 0, 4, 3, 172]
abbrev dktX8_pairFault_1 : List UInt8 := dkwX8_pairFault_1 ++ []
def dkwX8_pairFault_0 : List UInt8 := [42, 27, 182, 0, 91, 153, 0, 11, 42, 28, 182, 0, 91, 154, 0, 7, 4, 167, 0, 13, 27, 28]
abbrev dktX8_pairFault_0 : List UInt8 := dkwX8_pairFault_0 ++ dktX8_pairFault_1
theorem dksX8_pairFault_0 : cX8_pairFault.data.toList.drop 0 = dktX8_pairFault_0 := by decide +kernel
theorem dksX8_pairFault_1 : cX8_pairFault.data.toList.drop 22 = dktX8_pairFault_1 := dk_seg dksX8_pairFault_0 22 rfl rfl
theorem dX8_pairFault_0 : decode cX8_pairFault 0 = .ok (.aload_n 0, 1) := dk_42 (dk_at dksX8_pairFault_0 0 rfl rfl)
theorem dX8_pairFault_1 : decode cX8_pairFault 1 = .ok (.iload_n 1, 1) := dk_27 (dk_at dksX8_pairFault_0 1 rfl rfl)
theorem dX8_pairFault_2 : decode cX8_pairFault 2 = .ok (.invokevirtual 91, 3) := dk_182 0 91 (dk_at dksX8_pairFault_0 2 rfl rfl)
theorem dX8_pairFault_5 : decode cX8_pairFault 5 = .ok (.ifCond .eq 11, 3) := dk_153 0 11 (dk_at dksX8_pairFault_0 5 rfl rfl)
theorem dX8_pairFault_8 : decode cX8_pairFault 8 = .ok (.aload_n 0, 1) := dk_42 (dk_at dksX8_pairFault_0 8 rfl rfl)
theorem dX8_pairFault_9 : decode cX8_pairFault 9 = .ok (.iload_n 2, 1) := dk_28 (dk_at dksX8_pairFault_0 9 rfl rfl)
theorem dX8_pairFault_10 : decode cX8_pairFault 10 = .ok (.invokevirtual 91, 3) := dk_182 0 91 (dk_at dksX8_pairFault_0 10 rfl rfl)
theorem dX8_pairFault_13 : decode cX8_pairFault 13 = .ok (.ifCond .ne 7, 3) := dk_154 0 7 (dk_at dksX8_pairFault_0 13 rfl rfl)
theorem dX8_pairFault_16 : decode cX8_pairFault 16 = .ok (.iconst 1, 1) := dk_4 (dk_at dksX8_pairFault_0 16 rfl rfl)
theorem dX8_pairFault_17 : decode cX8_pairFault 17 = .ok (.goto 13, 3) := dk_167 0 13 (dk_at dksX8_pairFault_0 17 rfl rfl)
theorem dX8_pairFault_20 : decode cX8_pairFault 20 = .ok (.iload_n 1, 1) := dk_27 (dk_at dksX8_pairFault_0 20 rfl rfl)
theorem dX8_pairFault_21 : decode cX8_pairFault 21 = .ok (.iload_n 2, 1) := dk_28 (dk_at dksX8_pairFault_0 21 rfl rfl)
theorem dX8_pairFault_22 : decode cX8_pairFault 22 = .ok (.if_icmp .ne 7, 3) := dk_160 0 7 (dk_at dksX8_pairFault_1 0 rfl rfl)
theorem dX8_pairFault_25 : decode cX8_pairFault 25 = .ok (.iconst 2, 1) := dk_5 (dk_at dksX8_pairFault_1 3 rfl rfl)
theorem dX8_pairFault_26 : decode cX8_pairFault 26 = .ok (.goto 4, 3) := dk_167 0 4 (dk_at dksX8_pairFault_1 4 rfl rfl)
theorem dX8_pairFault_29 : decode cX8_pairFault 29 = .ok (.iconst 0, 1) := dk_3 (dk_at dksX8_pairFault_1 7 rfl rfl)
theorem dX8_pairFault_30 : decode cX8_pairFault 30 = .ok (.ireturn, 1) := dk_172 (dk_at dksX8_pairFault_1 8 rfl rfl)
abbrev cX8_isLevel : ByteArray := prog_29_method_69_code
def yX8_isLevel : MethodName := ⟨RX8, "isLevel", "(I)Z"⟩
def dkwX8_isLevel_0 : List UInt8 := [27, 133, 9, 42, 180, 0, 9, 6, 46, 4, 100, 133, 184, 0, 79, 172]
abbrev dktX8_isLevel_0 : List UInt8 := dkwX8_isLevel_0 ++ []
theorem dksX8_isLevel_0 : cX8_isLevel.data.toList.drop 0 = dktX8_isLevel_0 := by decide +kernel
theorem dX8_isLevel_0 : decode cX8_isLevel 0 = .ok (.iload_n 1, 1) := dk_27 (dk_at dksX8_isLevel_0 0 rfl rfl)
theorem dX8_isLevel_1 : decode cX8_isLevel 1 = .ok (.i2l, 1) := dk_133 (dk_at dksX8_isLevel_0 1 rfl rfl)
theorem dX8_isLevel_2 : decode cX8_isLevel 2 = .ok (.lconst 0, 1) := dk_9 (dk_at dksX8_isLevel_0 2 rfl rfl)
theorem dX8_isLevel_3 : decode cX8_isLevel 3 = .ok (.aload_n 0, 1) := dk_42 (dk_at dksX8_isLevel_0 3 rfl rfl)
theorem dX8_isLevel_4 : decode cX8_isLevel 4 = .ok (.getfield 9, 3) := dk_180 0 9 (dk_at dksX8_isLevel_0 4 rfl rfl)
theorem dX8_isLevel_7 : decode cX8_isLevel 7 = .ok (.iconst 3, 1) := dk_6 (dk_at dksX8_isLevel_0 7 rfl rfl)
theorem dX8_isLevel_8 : decode cX8_isLevel 8 = .ok (.iaload, 1) := dk_46 (dk_at dksX8_isLevel_0 8 rfl rfl)
theorem dX8_isLevel_9 : decode cX8_isLevel 9 = .ok (.iconst 1, 1) := dk_4 (dk_at dksX8_isLevel_0 9 rfl rfl)
theorem dX8_isLevel_10 : decode cX8_isLevel 10 = .ok (.isub, 1) := dk_100 (dk_at dksX8_isLevel_0 10 rfl rfl)
theorem dX8_isLevel_11 : decode cX8_isLevel 11 = .ok (.i2l, 1) := dk_133 (dk_at dksX8_isLevel_0 11 rfl rfl)
theorem dX8_isLevel_12 : decode cX8_isLevel 12 = .ok (.invokestatic 79, 3) := dk_184 0 79 (dk_at dksX8_isLevel_0 12 rfl rfl)
theorem dX8_isLevel_15 : decode cX8_isLevel 15 = .ok (.ireturn, 1) := dk_172 (dk_at dksX8_isLevel_0 15 rfl rfl)
abbrev cX8_layGains : ByteArray := prog_29_method_67_code
def yX8_layGains : MethodName := ⟨RX8, "layGains", "(II)V"⟩
def dkwX8_layGains_4 : List UInt8 := [28, 182, 1, 88, 79, 132, 4, 1, 167, 255, 174, 132, 3, 1, 167, 255, 155, 177]
abbrev dktX8_layGains_4 : List UInt8 := dkwX8_layGains_4 ++ []
def dkwX8_layGains_3 : List UInt8 := [21, 4, 96, 42, 27, 182, 1, 88, 79, 42, 180, 0, 49, 16, 64, 16, 8, 29, 104, 96, 21, 4, 96, 42]
abbrev dktX8_layGains_3 : List UInt8 := dkwX8_layGains_3 ++ dktX8_layGains_4
def dkwX8_layGains_2 : List UInt8 := [180, 0, 43, 28, 42, 180, 0, 9, 16, 52, 21, 4, 96, 46, 79, 42, 180, 0, 49, 16, 8, 29, 104]
abbrev dktX8_layGains_2 : List UInt8 := dkwX8_layGains_2 ++ dktX8_layGains_3
def dkwX8_layGains_1 : List UInt8 := [180, 0, 9, 6, 46, 162, 0, 77, 42, 180, 0, 43, 27, 42, 180, 0, 9, 16, 52, 29, 96, 46, 79, 42]
abbrev dktX8_layGains_1 : List UInt8 := dkwX8_layGains_1 ++ dktX8_layGains_2
def dkwX8_layGains_0 : List UInt8 := [42, 182, 1, 42, 3, 62, 29, 42, 180, 0, 9, 6, 46, 162, 0, 97, 3, 54, 4, 21, 4, 42]
abbrev dktX8_layGains_0 : List UInt8 := dkwX8_layGains_0 ++ dktX8_layGains_1
theorem dksX8_layGains_0 : cX8_layGains.data.toList.drop 0 = dktX8_layGains_0 := by decide +kernel
theorem dksX8_layGains_1 : cX8_layGains.data.toList.drop 22 = dktX8_layGains_1 := dk_seg dksX8_layGains_0 22 rfl rfl
theorem dksX8_layGains_2 : cX8_layGains.data.toList.drop 46 = dktX8_layGains_2 := dk_seg dksX8_layGains_1 24 rfl rfl
theorem dksX8_layGains_3 : cX8_layGains.data.toList.drop 69 = dktX8_layGains_3 := dk_seg dksX8_layGains_2 23 rfl rfl
theorem dksX8_layGains_4 : cX8_layGains.data.toList.drop 93 = dktX8_layGains_4 := dk_seg dksX8_layGains_3 24 rfl rfl
theorem dX8_layGains_0 : decode cX8_layGains 0 = .ok (.aload_n 0, 1) := dk_42 (dk_at dksX8_layGains_0 0 rfl rfl)
theorem dX8_layGains_1 : decode cX8_layGains 1 = .ok (.invokevirtual 298, 3) := dk_182 1 42 (dk_at dksX8_layGains_0 1 rfl rfl)
theorem dX8_layGains_4 : decode cX8_layGains 4 = .ok (.iconst 0, 1) := dk_3 (dk_at dksX8_layGains_0 4 rfl rfl)
theorem dX8_layGains_5 : decode cX8_layGains 5 = .ok (.istore_n 3, 1) := dk_62 (dk_at dksX8_layGains_0 5 rfl rfl)
theorem dX8_layGains_6 : decode cX8_layGains 6 = .ok (.iload_n 3, 1) := dk_29 (dk_at dksX8_layGains_0 6 rfl rfl)
theorem dX8_layGains_7 : decode cX8_layGains 7 = .ok (.aload_n 0, 1) := dk_42 (dk_at dksX8_layGains_0 7 rfl rfl)
theorem dX8_layGains_8 : decode cX8_layGains 8 = .ok (.getfield 9, 3) := dk_180 0 9 (dk_at dksX8_layGains_0 8 rfl rfl)
theorem dX8_layGains_11 : decode cX8_layGains 11 = .ok (.iconst 3, 1) := dk_6 (dk_at dksX8_layGains_0 11 rfl rfl)
theorem dX8_layGains_12 : decode cX8_layGains 12 = .ok (.iaload, 1) := dk_46 (dk_at dksX8_layGains_0 12 rfl rfl)
theorem dX8_layGains_13 : decode cX8_layGains 13 = .ok (.if_icmp .ge 97, 3) := dk_162 0 97 (dk_at dksX8_layGains_0 13 rfl rfl)
theorem dX8_layGains_16 : decode cX8_layGains 16 = .ok (.iconst 0, 1) := dk_3 (dk_at dksX8_layGains_0 16 rfl rfl)
theorem dX8_layGains_17 : decode cX8_layGains 17 = .ok (.istore 4, 2) := dk_54 4 (dk_at dksX8_layGains_0 17 rfl rfl)
theorem dX8_layGains_19 : decode cX8_layGains 19 = .ok (.iload 4, 2) := dk_21 4 (dk_at dksX8_layGains_0 19 rfl rfl)
theorem dX8_layGains_21 : decode cX8_layGains 21 = .ok (.aload_n 0, 1) := dk_42 (dk_at dksX8_layGains_0 21 rfl rfl)
theorem dX8_layGains_22 : decode cX8_layGains 22 = .ok (.getfield 9, 3) := dk_180 0 9 (dk_at dksX8_layGains_1 0 rfl rfl)
theorem dX8_layGains_25 : decode cX8_layGains 25 = .ok (.iconst 3, 1) := dk_6 (dk_at dksX8_layGains_1 3 rfl rfl)
theorem dX8_layGains_26 : decode cX8_layGains 26 = .ok (.iaload, 1) := dk_46 (dk_at dksX8_layGains_1 4 rfl rfl)
theorem dX8_layGains_27 : decode cX8_layGains 27 = .ok (.if_icmp .ge 77, 3) := dk_162 0 77 (dk_at dksX8_layGains_1 5 rfl rfl)
theorem dX8_layGains_30 : decode cX8_layGains 30 = .ok (.aload_n 0, 1) := dk_42 (dk_at dksX8_layGains_1 8 rfl rfl)
theorem dX8_layGains_31 : decode cX8_layGains 31 = .ok (.getfield 43, 3) := dk_180 0 43 (dk_at dksX8_layGains_1 9 rfl rfl)
theorem dX8_layGains_34 : decode cX8_layGains 34 = .ok (.iload_n 1, 1) := dk_27 (dk_at dksX8_layGains_1 12 rfl rfl)
theorem dX8_layGains_35 : decode cX8_layGains 35 = .ok (.aload_n 0, 1) := dk_42 (dk_at dksX8_layGains_1 13 rfl rfl)
theorem dX8_layGains_36 : decode cX8_layGains 36 = .ok (.getfield 9, 3) := dk_180 0 9 (dk_at dksX8_layGains_1 14 rfl rfl)
theorem dX8_layGains_39 : decode cX8_layGains 39 = .ok (.bipush 52, 2) := dk_16 52 (dk_at dksX8_layGains_1 17 rfl rfl)
theorem dX8_layGains_41 : decode cX8_layGains 41 = .ok (.iload_n 3, 1) := dk_29 (dk_at dksX8_layGains_1 19 rfl rfl)
theorem dX8_layGains_42 : decode cX8_layGains 42 = .ok (.iadd, 1) := dk_96 (dk_at dksX8_layGains_1 20 rfl rfl)
theorem dX8_layGains_43 : decode cX8_layGains 43 = .ok (.iaload, 1) := dk_46 (dk_at dksX8_layGains_1 21 rfl rfl)
theorem dX8_layGains_44 : decode cX8_layGains 44 = .ok (.iastore, 1) := dk_79 (dk_at dksX8_layGains_1 22 rfl rfl)
theorem dX8_layGains_45 : decode cX8_layGains 45 = .ok (.aload_n 0, 1) := dk_42 (dk_at dksX8_layGains_1 23 rfl rfl)
theorem dX8_layGains_46 : decode cX8_layGains 46 = .ok (.getfield 43, 3) := dk_180 0 43 (dk_at dksX8_layGains_2 0 rfl rfl)
theorem dX8_layGains_49 : decode cX8_layGains 49 = .ok (.iload_n 2, 1) := dk_28 (dk_at dksX8_layGains_2 3 rfl rfl)
theorem dX8_layGains_50 : decode cX8_layGains 50 = .ok (.aload_n 0, 1) := dk_42 (dk_at dksX8_layGains_2 4 rfl rfl)
theorem dX8_layGains_51 : decode cX8_layGains 51 = .ok (.getfield 9, 3) := dk_180 0 9 (dk_at dksX8_layGains_2 5 rfl rfl)
theorem dX8_layGains_54 : decode cX8_layGains 54 = .ok (.bipush 52, 2) := dk_16 52 (dk_at dksX8_layGains_2 8 rfl rfl)
theorem dX8_layGains_56 : decode cX8_layGains 56 = .ok (.iload 4, 2) := dk_21 4 (dk_at dksX8_layGains_2 10 rfl rfl)
theorem dX8_layGains_58 : decode cX8_layGains 58 = .ok (.iadd, 1) := dk_96 (dk_at dksX8_layGains_2 12 rfl rfl)
theorem dX8_layGains_59 : decode cX8_layGains 59 = .ok (.iaload, 1) := dk_46 (dk_at dksX8_layGains_2 13 rfl rfl)
theorem dX8_layGains_60 : decode cX8_layGains 60 = .ok (.iastore, 1) := dk_79 (dk_at dksX8_layGains_2 14 rfl rfl)
theorem dX8_layGains_61 : decode cX8_layGains 61 = .ok (.aload_n 0, 1) := dk_42 (dk_at dksX8_layGains_2 15 rfl rfl)
theorem dX8_layGains_62 : decode cX8_layGains 62 = .ok (.getfield 49, 3) := dk_180 0 49 (dk_at dksX8_layGains_2 16 rfl rfl)
theorem dX8_layGains_65 : decode cX8_layGains 65 = .ok (.bipush 8, 2) := dk_16 8 (dk_at dksX8_layGains_2 19 rfl rfl)
theorem dX8_layGains_67 : decode cX8_layGains 67 = .ok (.iload_n 3, 1) := dk_29 (dk_at dksX8_layGains_2 21 rfl rfl)
theorem dX8_layGains_68 : decode cX8_layGains 68 = .ok (.imul, 1) := dk_104 (dk_at dksX8_layGains_2 22 rfl rfl)
theorem dX8_layGains_69 : decode cX8_layGains 69 = .ok (.iload 4, 2) := dk_21 4 (dk_at dksX8_layGains_3 0 rfl rfl)
theorem dX8_layGains_71 : decode cX8_layGains 71 = .ok (.iadd, 1) := dk_96 (dk_at dksX8_layGains_3 2 rfl rfl)
theorem dX8_layGains_72 : decode cX8_layGains 72 = .ok (.aload_n 0, 1) := dk_42 (dk_at dksX8_layGains_3 3 rfl rfl)
theorem dX8_layGains_73 : decode cX8_layGains 73 = .ok (.iload_n 1, 1) := dk_27 (dk_at dksX8_layGains_3 4 rfl rfl)
theorem dX8_layGains_74 : decode cX8_layGains 74 = .ok (.invokevirtual 344, 3) := dk_182 1 88 (dk_at dksX8_layGains_3 5 rfl rfl)
theorem dX8_layGains_77 : decode cX8_layGains 77 = .ok (.iastore, 1) := dk_79 (dk_at dksX8_layGains_3 8 rfl rfl)
theorem dX8_layGains_78 : decode cX8_layGains 78 = .ok (.aload_n 0, 1) := dk_42 (dk_at dksX8_layGains_3 9 rfl rfl)
theorem dX8_layGains_79 : decode cX8_layGains 79 = .ok (.getfield 49, 3) := dk_180 0 49 (dk_at dksX8_layGains_3 10 rfl rfl)
theorem dX8_layGains_82 : decode cX8_layGains 82 = .ok (.bipush 64, 2) := dk_16 64 (dk_at dksX8_layGains_3 13 rfl rfl)
theorem dX8_layGains_84 : decode cX8_layGains 84 = .ok (.bipush 8, 2) := dk_16 8 (dk_at dksX8_layGains_3 15 rfl rfl)
theorem dX8_layGains_86 : decode cX8_layGains 86 = .ok (.iload_n 3, 1) := dk_29 (dk_at dksX8_layGains_3 17 rfl rfl)
theorem dX8_layGains_87 : decode cX8_layGains 87 = .ok (.imul, 1) := dk_104 (dk_at dksX8_layGains_3 18 rfl rfl)
theorem dX8_layGains_88 : decode cX8_layGains 88 = .ok (.iadd, 1) := dk_96 (dk_at dksX8_layGains_3 19 rfl rfl)
theorem dX8_layGains_89 : decode cX8_layGains 89 = .ok (.iload 4, 2) := dk_21 4 (dk_at dksX8_layGains_3 20 rfl rfl)
theorem dX8_layGains_91 : decode cX8_layGains 91 = .ok (.iadd, 1) := dk_96 (dk_at dksX8_layGains_3 22 rfl rfl)
theorem dX8_layGains_92 : decode cX8_layGains 92 = .ok (.aload_n 0, 1) := dk_42 (dk_at dksX8_layGains_3 23 rfl rfl)
theorem dX8_layGains_93 : decode cX8_layGains 93 = .ok (.iload_n 2, 1) := dk_28 (dk_at dksX8_layGains_4 0 rfl rfl)
theorem dX8_layGains_94 : decode cX8_layGains 94 = .ok (.invokevirtual 344, 3) := dk_182 1 88 (dk_at dksX8_layGains_4 1 rfl rfl)
theorem dX8_layGains_97 : decode cX8_layGains 97 = .ok (.iastore, 1) := dk_79 (dk_at dksX8_layGains_4 4 rfl rfl)
theorem dX8_layGains_98 : decode cX8_layGains 98 = .ok (.iinc 4 1, 3) := dk_132 4 1 (dk_at dksX8_layGains_4 5 rfl rfl)
theorem dX8_layGains_101 : decode cX8_layGains 101 = .ok (.goto (-82), 3) := dk_167 255 174 (dk_at dksX8_layGains_4 8 rfl rfl)
theorem dX8_layGains_104 : decode cX8_layGains 104 = .ok (.iinc 3 1, 3) := dk_132 3 1 (dk_at dksX8_layGains_4 11 rfl rfl)
theorem dX8_layGains_107 : decode cX8_layGains 107 = .ok (.goto (-101), 3) := dk_167 255 155 (dk_at dksX8_layGains_4 14 rfl rfl)
theorem dX8_layGains_110 : decode cX8_layGains 110 = .ok (.return_, 1) := dk_177 (dk_at dksX8_layGains_4 17 rfl rfl)
abbrev cX8_profit : ByteArray := prog_29_method_66_code
def yX8_profit : MethodName := ⟨RX8, "profit", "(I)I"⟩
def dkwX8_profit_2 : List UInt8 := [96, 46, 100, 104, 96, 61, 132, 3, 1, 167, 255, 203, 28, 172]
abbrev dktX8_profit_2 : List UInt8 := dkwX8_profit_2 ++ []
def dkwX8_profit_1 : List UInt8 := [42, 180, 0, 9, 16, 28, 7, 29, 104, 96, 46, 42, 180, 0, 43, 27, 46, 42, 180, 0, 9, 16, 8, 27]
abbrev dktX8_profit_1 : List UInt8 := dkwX8_profit_1 ++ dktX8_profit_2
def dkwX8_profit_0 : List UInt8 := [3, 61, 3, 62, 29, 42, 180, 0, 9, 4, 46, 162, 0, 49, 42, 29, 182, 1, 45, 27, 160, 0, 34, 28]
abbrev dktX8_profit_0 : List UInt8 := dkwX8_profit_0 ++ dktX8_profit_1
theorem dksX8_profit_0 : cX8_profit.data.toList.drop 0 = dktX8_profit_0 := by decide +kernel
theorem dksX8_profit_1 : cX8_profit.data.toList.drop 24 = dktX8_profit_1 := dk_seg dksX8_profit_0 24 rfl rfl
theorem dksX8_profit_2 : cX8_profit.data.toList.drop 48 = dktX8_profit_2 := dk_seg dksX8_profit_1 24 rfl rfl
theorem dX8_profit_0 : decode cX8_profit 0 = .ok (.iconst 0, 1) := dk_3 (dk_at dksX8_profit_0 0 rfl rfl)
theorem dX8_profit_1 : decode cX8_profit 1 = .ok (.istore_n 2, 1) := dk_61 (dk_at dksX8_profit_0 1 rfl rfl)
theorem dX8_profit_2 : decode cX8_profit 2 = .ok (.iconst 0, 1) := dk_3 (dk_at dksX8_profit_0 2 rfl rfl)
theorem dX8_profit_3 : decode cX8_profit 3 = .ok (.istore_n 3, 1) := dk_62 (dk_at dksX8_profit_0 3 rfl rfl)
theorem dX8_profit_4 : decode cX8_profit 4 = .ok (.iload_n 3, 1) := dk_29 (dk_at dksX8_profit_0 4 rfl rfl)
theorem dX8_profit_5 : decode cX8_profit 5 = .ok (.aload_n 0, 1) := dk_42 (dk_at dksX8_profit_0 5 rfl rfl)
theorem dX8_profit_6 : decode cX8_profit 6 = .ok (.getfield 9, 3) := dk_180 0 9 (dk_at dksX8_profit_0 6 rfl rfl)
theorem dX8_profit_9 : decode cX8_profit 9 = .ok (.iconst 1, 1) := dk_4 (dk_at dksX8_profit_0 9 rfl rfl)
theorem dX8_profit_10 : decode cX8_profit 10 = .ok (.iaload, 1) := dk_46 (dk_at dksX8_profit_0 10 rfl rfl)
theorem dX8_profit_11 : decode cX8_profit 11 = .ok (.if_icmp .ge 49, 3) := dk_162 0 49 (dk_at dksX8_profit_0 11 rfl rfl)
theorem dX8_profit_14 : decode cX8_profit 14 = .ok (.aload_n 0, 1) := dk_42 (dk_at dksX8_profit_0 14 rfl rfl)
theorem dX8_profit_15 : decode cX8_profit 15 = .ok (.iload_n 3, 1) := dk_29 (dk_at dksX8_profit_0 15 rfl rfl)
theorem dX8_profit_16 : decode cX8_profit 16 = .ok (.invokevirtual 301, 3) := dk_182 1 45 (dk_at dksX8_profit_0 16 rfl rfl)
theorem dX8_profit_19 : decode cX8_profit 19 = .ok (.iload_n 1, 1) := dk_27 (dk_at dksX8_profit_0 19 rfl rfl)
theorem dX8_profit_20 : decode cX8_profit 20 = .ok (.if_icmp .ne 34, 3) := dk_160 0 34 (dk_at dksX8_profit_0 20 rfl rfl)
theorem dX8_profit_23 : decode cX8_profit 23 = .ok (.iload_n 2, 1) := dk_28 (dk_at dksX8_profit_0 23 rfl rfl)
theorem dX8_profit_24 : decode cX8_profit 24 = .ok (.aload_n 0, 1) := dk_42 (dk_at dksX8_profit_1 0 rfl rfl)
theorem dX8_profit_25 : decode cX8_profit 25 = .ok (.getfield 9, 3) := dk_180 0 9 (dk_at dksX8_profit_1 1 rfl rfl)
theorem dX8_profit_28 : decode cX8_profit 28 = .ok (.bipush 28, 2) := dk_16 28 (dk_at dksX8_profit_1 4 rfl rfl)
theorem dX8_profit_30 : decode cX8_profit 30 = .ok (.iconst 4, 1) := dk_7 (dk_at dksX8_profit_1 6 rfl rfl)
theorem dX8_profit_31 : decode cX8_profit 31 = .ok (.iload_n 3, 1) := dk_29 (dk_at dksX8_profit_1 7 rfl rfl)
theorem dX8_profit_32 : decode cX8_profit 32 = .ok (.imul, 1) := dk_104 (dk_at dksX8_profit_1 8 rfl rfl)
theorem dX8_profit_33 : decode cX8_profit 33 = .ok (.iadd, 1) := dk_96 (dk_at dksX8_profit_1 9 rfl rfl)
theorem dX8_profit_34 : decode cX8_profit 34 = .ok (.iaload, 1) := dk_46 (dk_at dksX8_profit_1 10 rfl rfl)
theorem dX8_profit_35 : decode cX8_profit 35 = .ok (.aload_n 0, 1) := dk_42 (dk_at dksX8_profit_1 11 rfl rfl)
theorem dX8_profit_36 : decode cX8_profit 36 = .ok (.getfield 43, 3) := dk_180 0 43 (dk_at dksX8_profit_1 12 rfl rfl)
theorem dX8_profit_39 : decode cX8_profit 39 = .ok (.iload_n 1, 1) := dk_27 (dk_at dksX8_profit_1 15 rfl rfl)
theorem dX8_profit_40 : decode cX8_profit 40 = .ok (.iaload, 1) := dk_46 (dk_at dksX8_profit_1 16 rfl rfl)
theorem dX8_profit_41 : decode cX8_profit 41 = .ok (.aload_n 0, 1) := dk_42 (dk_at dksX8_profit_1 17 rfl rfl)
theorem dX8_profit_42 : decode cX8_profit 42 = .ok (.getfield 9, 3) := dk_180 0 9 (dk_at dksX8_profit_1 18 rfl rfl)
theorem dX8_profit_45 : decode cX8_profit 45 = .ok (.bipush 8, 2) := dk_16 8 (dk_at dksX8_profit_1 21 rfl rfl)
theorem dX8_profit_47 : decode cX8_profit 47 = .ok (.iload_n 1, 1) := dk_27 (dk_at dksX8_profit_1 23 rfl rfl)
theorem dX8_profit_48 : decode cX8_profit 48 = .ok (.iadd, 1) := dk_96 (dk_at dksX8_profit_2 0 rfl rfl)
theorem dX8_profit_49 : decode cX8_profit 49 = .ok (.iaload, 1) := dk_46 (dk_at dksX8_profit_2 1 rfl rfl)
theorem dX8_profit_50 : decode cX8_profit 50 = .ok (.isub, 1) := dk_100 (dk_at dksX8_profit_2 2 rfl rfl)
theorem dX8_profit_51 : decode cX8_profit 51 = .ok (.imul, 1) := dk_104 (dk_at dksX8_profit_2 3 rfl rfl)
theorem dX8_profit_52 : decode cX8_profit 52 = .ok (.iadd, 1) := dk_96 (dk_at dksX8_profit_2 4 rfl rfl)
theorem dX8_profit_53 : decode cX8_profit 53 = .ok (.istore_n 2, 1) := dk_61 (dk_at dksX8_profit_2 5 rfl rfl)
theorem dX8_profit_54 : decode cX8_profit 54 = .ok (.iinc 3 1, 3) := dk_132 3 1 (dk_at dksX8_profit_2 6 rfl rfl)
theorem dX8_profit_57 : decode cX8_profit 57 = .ok (.goto (-53), 3) := dk_167 255 203 (dk_at dksX8_profit_2 9 rfl rfl)
theorem dX8_profit_60 : decode cX8_profit 60 = .ok (.iload_n 2, 1) := dk_28 (dk_at dksX8_profit_2 12 rfl rfl)
theorem dX8_profit_61 : decode cX8_profit 61 = .ok (.ireturn, 1) := dk_172 (dk_at dksX8_profit_2 13 rfl rfl)
abbrev cX8_gainOf : ByteArray := prog_29_method_68_code
def yX8_gainOf : MethodName := ⟨RX8, "gainOf", "(IIZ)I"⟩
def dkwX8_gainOf_0 : List UInt8 := [42, 180, 0, 49, 29, 153, 0, 8, 16, 64, 167, 0, 4, 3, 16, 8, 27, 104, 96, 28, 96, 46, 172]
abbrev dktX8_gainOf_0 : List UInt8 := dkwX8_gainOf_0 ++ []
theorem dksX8_gainOf_0 : cX8_gainOf.data.toList.drop 0 = dktX8_gainOf_0 := by decide +kernel
theorem dX8_gainOf_0 : decode cX8_gainOf 0 = .ok (.aload_n 0, 1) := dk_42 (dk_at dksX8_gainOf_0 0 rfl rfl)
theorem dX8_gainOf_1 : decode cX8_gainOf 1 = .ok (.getfield 49, 3) := dk_180 0 49 (dk_at dksX8_gainOf_0 1 rfl rfl)
theorem dX8_gainOf_4 : decode cX8_gainOf 4 = .ok (.iload_n 3, 1) := dk_29 (dk_at dksX8_gainOf_0 4 rfl rfl)
theorem dX8_gainOf_5 : decode cX8_gainOf 5 = .ok (.ifCond .eq 8, 3) := dk_153 0 8 (dk_at dksX8_gainOf_0 5 rfl rfl)
theorem dX8_gainOf_8 : decode cX8_gainOf 8 = .ok (.bipush 64, 2) := dk_16 64 (dk_at dksX8_gainOf_0 8 rfl rfl)
theorem dX8_gainOf_10 : decode cX8_gainOf 10 = .ok (.goto 4, 3) := dk_167 0 4 (dk_at dksX8_gainOf_0 10 rfl rfl)
theorem dX8_gainOf_13 : decode cX8_gainOf 13 = .ok (.iconst 0, 1) := dk_3 (dk_at dksX8_gainOf_0 13 rfl rfl)
theorem dX8_gainOf_14 : decode cX8_gainOf 14 = .ok (.bipush 8, 2) := dk_16 8 (dk_at dksX8_gainOf_0 14 rfl rfl)
theorem dX8_gainOf_16 : decode cX8_gainOf 16 = .ok (.iload_n 1, 1) := dk_27 (dk_at dksX8_gainOf_0 16 rfl rfl)
theorem dX8_gainOf_17 : decode cX8_gainOf 17 = .ok (.imul, 1) := dk_104 (dk_at dksX8_gainOf_0 17 rfl rfl)
theorem dX8_gainOf_18 : decode cX8_gainOf 18 = .ok (.iadd, 1) := dk_96 (dk_at dksX8_gainOf_0 18 rfl rfl)
theorem dX8_gainOf_19 : decode cX8_gainOf 19 = .ok (.iload_n 2, 1) := dk_28 (dk_at dksX8_gainOf_0 19 rfl rfl)
theorem dX8_gainOf_20 : decode cX8_gainOf 20 = .ok (.iadd, 1) := dk_96 (dk_at dksX8_gainOf_0 20 rfl rfl)
theorem dX8_gainOf_21 : decode cX8_gainOf 21 = .ok (.iaload, 1) := dk_46 (dk_at dksX8_gainOf_0 21 rfl rfl)
theorem dX8_gainOf_22 : decode cX8_gainOf 22 = .ok (.ireturn, 1) := dk_172 (dk_at dksX8_gainOf_0 22 rfl rfl)
abbrev cX8_reply : ByteArray := prog_29_method_73_code
def yX8_reply : MethodName := ⟨RX8, "reply", "(III)I"⟩
def dkwX8_reply_3 : List UInt8 := [164, 0, 7, 21, 5, 54, 4, 132, 5, 1, 167, 255, 219, 21, 4, 172]
abbrev dktX8_reply_3 : List UInt8 := dkwX8_reply_3 ++ []
def dkwX8_reply_2 : List UInt8 := [180, 0, 9, 6, 46, 162, 0, 32, 42, 21, 5, 29, 3, 182, 1, 100, 42, 21, 4, 29, 3, 182, 1, 100]
abbrev dktX8_reply_2 : List UInt8 := dkwX8_reply_2 ++ dktX8_reply_3
def dkwX8_reply_1 : List UInt8 := [154, 0, 9, 42, 6, 182, 0, 83, 172, 42, 27, 28, 182, 1, 97, 3, 54, 4, 4, 54, 5, 21, 5, 42]
abbrev dktX8_reply_1 : List UInt8 := dkwX8_reply_1 ++ dktX8_reply_2
def dkwX8_reply_0 : List UInt8 := [42, 42, 27, 28, 182, 1, 91, 181, 0, 76, 42, 180, 0, 76, 158, 0, 5, 3, 172, 42, 29, 182, 1, 94]
abbrev dktX8_reply_0 : List UInt8 := dkwX8_reply_0 ++ dktX8_reply_1
theorem dksX8_reply_0 : cX8_reply.data.toList.drop 0 = dktX8_reply_0 := by decide +kernel
theorem dksX8_reply_1 : cX8_reply.data.toList.drop 24 = dktX8_reply_1 := dk_seg dksX8_reply_0 24 rfl rfl
theorem dksX8_reply_2 : cX8_reply.data.toList.drop 48 = dktX8_reply_2 := dk_seg dksX8_reply_1 24 rfl rfl
theorem dksX8_reply_3 : cX8_reply.data.toList.drop 72 = dktX8_reply_3 := dk_seg dksX8_reply_2 24 rfl rfl
theorem dX8_reply_0 : decode cX8_reply 0 = .ok (.aload_n 0, 1) := dk_42 (dk_at dksX8_reply_0 0 rfl rfl)
theorem dX8_reply_1 : decode cX8_reply 1 = .ok (.aload_n 0, 1) := dk_42 (dk_at dksX8_reply_0 1 rfl rfl)
theorem dX8_reply_2 : decode cX8_reply 2 = .ok (.iload_n 1, 1) := dk_27 (dk_at dksX8_reply_0 2 rfl rfl)
theorem dX8_reply_3 : decode cX8_reply 3 = .ok (.iload_n 2, 1) := dk_28 (dk_at dksX8_reply_0 3 rfl rfl)
theorem dX8_reply_4 : decode cX8_reply 4 = .ok (.invokevirtual 347, 3) := dk_182 1 91 (dk_at dksX8_reply_0 4 rfl rfl)
theorem dX8_reply_7 : decode cX8_reply 7 = .ok (.putfield 76, 3) := dk_181 0 76 (dk_at dksX8_reply_0 7 rfl rfl)
theorem dX8_reply_10 : decode cX8_reply 10 = .ok (.aload_n 0, 1) := dk_42 (dk_at dksX8_reply_0 10 rfl rfl)
theorem dX8_reply_11 : decode cX8_reply 11 = .ok (.getfield 76, 3) := dk_180 0 76 (dk_at dksX8_reply_0 11 rfl rfl)
theorem dX8_reply_14 : decode cX8_reply 14 = .ok (.ifCond .le 5, 3) := dk_158 0 5 (dk_at dksX8_reply_0 14 rfl rfl)
theorem dX8_reply_17 : decode cX8_reply 17 = .ok (.iconst 0, 1) := dk_3 (dk_at dksX8_reply_0 17 rfl rfl)
theorem dX8_reply_18 : decode cX8_reply 18 = .ok (.ireturn, 1) := dk_172 (dk_at dksX8_reply_0 18 rfl rfl)
theorem dX8_reply_19 : decode cX8_reply 19 = .ok (.aload_n 0, 1) := dk_42 (dk_at dksX8_reply_0 19 rfl rfl)
theorem dX8_reply_20 : decode cX8_reply 20 = .ok (.iload_n 3, 1) := dk_29 (dk_at dksX8_reply_0 20 rfl rfl)
theorem dX8_reply_21 : decode cX8_reply 21 = .ok (.invokevirtual 350, 3) := dk_182 1 94 (dk_at dksX8_reply_0 21 rfl rfl)
theorem dX8_reply_24 : decode cX8_reply 24 = .ok (.ifCond .ne 9, 3) := dk_154 0 9 (dk_at dksX8_reply_1 0 rfl rfl)
theorem dX8_reply_27 : decode cX8_reply 27 = .ok (.aload_n 0, 1) := dk_42 (dk_at dksX8_reply_1 3 rfl rfl)
theorem dX8_reply_28 : decode cX8_reply 28 = .ok (.iconst 3, 1) := dk_6 (dk_at dksX8_reply_1 4 rfl rfl)
theorem dX8_reply_29 : decode cX8_reply 29 = .ok (.invokevirtual 83, 3) := dk_182 0 83 (dk_at dksX8_reply_1 5 rfl rfl)
theorem dX8_reply_32 : decode cX8_reply 32 = .ok (.ireturn, 1) := dk_172 (dk_at dksX8_reply_1 8 rfl rfl)
theorem dX8_reply_33 : decode cX8_reply 33 = .ok (.aload_n 0, 1) := dk_42 (dk_at dksX8_reply_1 9 rfl rfl)
theorem dX8_reply_34 : decode cX8_reply 34 = .ok (.iload_n 1, 1) := dk_27 (dk_at dksX8_reply_1 10 rfl rfl)
theorem dX8_reply_35 : decode cX8_reply 35 = .ok (.iload_n 2, 1) := dk_28 (dk_at dksX8_reply_1 11 rfl rfl)
theorem dX8_reply_36 : decode cX8_reply 36 = .ok (.invokevirtual 353, 3) := dk_182 1 97 (dk_at dksX8_reply_1 12 rfl rfl)
theorem dX8_reply_39 : decode cX8_reply 39 = .ok (.iconst 0, 1) := dk_3 (dk_at dksX8_reply_1 15 rfl rfl)
theorem dX8_reply_40 : decode cX8_reply 40 = .ok (.istore 4, 2) := dk_54 4 (dk_at dksX8_reply_1 16 rfl rfl)
theorem dX8_reply_42 : decode cX8_reply 42 = .ok (.iconst 1, 1) := dk_4 (dk_at dksX8_reply_1 18 rfl rfl)
theorem dX8_reply_43 : decode cX8_reply 43 = .ok (.istore 5, 2) := dk_54 5 (dk_at dksX8_reply_1 19 rfl rfl)
theorem dX8_reply_45 : decode cX8_reply 45 = .ok (.iload 5, 2) := dk_21 5 (dk_at dksX8_reply_1 21 rfl rfl)
theorem dX8_reply_47 : decode cX8_reply 47 = .ok (.aload_n 0, 1) := dk_42 (dk_at dksX8_reply_1 23 rfl rfl)
theorem dX8_reply_48 : decode cX8_reply 48 = .ok (.getfield 9, 3) := dk_180 0 9 (dk_at dksX8_reply_2 0 rfl rfl)
theorem dX8_reply_51 : decode cX8_reply 51 = .ok (.iconst 3, 1) := dk_6 (dk_at dksX8_reply_2 3 rfl rfl)
theorem dX8_reply_52 : decode cX8_reply 52 = .ok (.iaload, 1) := dk_46 (dk_at dksX8_reply_2 4 rfl rfl)
theorem dX8_reply_53 : decode cX8_reply 53 = .ok (.if_icmp .ge 32, 3) := dk_162 0 32 (dk_at dksX8_reply_2 5 rfl rfl)
theorem dX8_reply_56 : decode cX8_reply 56 = .ok (.aload_n 0, 1) := dk_42 (dk_at dksX8_reply_2 8 rfl rfl)
theorem dX8_reply_57 : decode cX8_reply 57 = .ok (.iload 5, 2) := dk_21 5 (dk_at dksX8_reply_2 9 rfl rfl)
theorem dX8_reply_59 : decode cX8_reply 59 = .ok (.iload_n 3, 1) := dk_29 (dk_at dksX8_reply_2 11 rfl rfl)
theorem dX8_reply_60 : decode cX8_reply 60 = .ok (.iconst 0, 1) := dk_3 (dk_at dksX8_reply_2 12 rfl rfl)
theorem dX8_reply_61 : decode cX8_reply 61 = .ok (.invokevirtual 356, 3) := dk_182 1 100 (dk_at dksX8_reply_2 13 rfl rfl)
theorem dX8_reply_64 : decode cX8_reply 64 = .ok (.aload_n 0, 1) := dk_42 (dk_at dksX8_reply_2 16 rfl rfl)
theorem dX8_reply_65 : decode cX8_reply 65 = .ok (.iload 4, 2) := dk_21 4 (dk_at dksX8_reply_2 17 rfl rfl)
theorem dX8_reply_67 : decode cX8_reply 67 = .ok (.iload_n 3, 1) := dk_29 (dk_at dksX8_reply_2 19 rfl rfl)
theorem dX8_reply_68 : decode cX8_reply 68 = .ok (.iconst 0, 1) := dk_3 (dk_at dksX8_reply_2 20 rfl rfl)
theorem dX8_reply_69 : decode cX8_reply 69 = .ok (.invokevirtual 356, 3) := dk_182 1 100 (dk_at dksX8_reply_2 21 rfl rfl)
theorem dX8_reply_72 : decode cX8_reply 72 = .ok (.if_icmp .le 7, 3) := dk_164 0 7 (dk_at dksX8_reply_3 0 rfl rfl)
theorem dX8_reply_75 : decode cX8_reply 75 = .ok (.iload 5, 2) := dk_21 5 (dk_at dksX8_reply_3 3 rfl rfl)
theorem dX8_reply_77 : decode cX8_reply 77 = .ok (.istore 4, 2) := dk_54 4 (dk_at dksX8_reply_3 5 rfl rfl)
theorem dX8_reply_79 : decode cX8_reply 79 = .ok (.iinc 5 1, 3) := dk_132 5 1 (dk_at dksX8_reply_3 7 rfl rfl)
theorem dX8_reply_82 : decode cX8_reply 82 = .ok (.goto (-37), 3) := dk_167 255 219 (dk_at dksX8_reply_3 10 rfl rfl)
theorem dX8_reply_85 : decode cX8_reply 85 = .ok (.iload 4, 2) := dk_21 4 (dk_at dksX8_reply_3 13 rfl rfl)
theorem dX8_reply_87 : decode cX8_reply 87 = .ok (.ireturn, 1) := dk_172 (dk_at dksX8_reply_3 15 rfl rfl)
abbrev cX8_even : ByteArray := prog_29_method_76_code
def yX8_even : MethodName := ⟨RX8, "even", "(III)I"⟩
def dkwX8_even_1 : List UInt8 := [182, 1, 97, 42, 29, 182, 1, 106, 172]
abbrev dktX8_even_1 : List UInt8 := dkwX8_even_1 ++ []
def dkwX8_even_0 : List UInt8 := [42, 42, 27, 28, 182, 1, 91, 181, 0, 76, 42, 180, 0, 76, 158, 0, 5, 3, 172, 42, 27, 28]
abbrev dktX8_even_0 : List UInt8 := dkwX8_even_0 ++ dktX8_even_1
theorem dksX8_even_0 : cX8_even.data.toList.drop 0 = dktX8_even_0 := by decide +kernel
theorem dksX8_even_1 : cX8_even.data.toList.drop 22 = dktX8_even_1 := dk_seg dksX8_even_0 22 rfl rfl
theorem dX8_even_0 : decode cX8_even 0 = .ok (.aload_n 0, 1) := dk_42 (dk_at dksX8_even_0 0 rfl rfl)
theorem dX8_even_1 : decode cX8_even 1 = .ok (.aload_n 0, 1) := dk_42 (dk_at dksX8_even_0 1 rfl rfl)
theorem dX8_even_2 : decode cX8_even 2 = .ok (.iload_n 1, 1) := dk_27 (dk_at dksX8_even_0 2 rfl rfl)
theorem dX8_even_3 : decode cX8_even 3 = .ok (.iload_n 2, 1) := dk_28 (dk_at dksX8_even_0 3 rfl rfl)
theorem dX8_even_4 : decode cX8_even 4 = .ok (.invokevirtual 347, 3) := dk_182 1 91 (dk_at dksX8_even_0 4 rfl rfl)
theorem dX8_even_7 : decode cX8_even 7 = .ok (.putfield 76, 3) := dk_181 0 76 (dk_at dksX8_even_0 7 rfl rfl)
theorem dX8_even_10 : decode cX8_even 10 = .ok (.aload_n 0, 1) := dk_42 (dk_at dksX8_even_0 10 rfl rfl)
theorem dX8_even_11 : decode cX8_even 11 = .ok (.getfield 76, 3) := dk_180 0 76 (dk_at dksX8_even_0 11 rfl rfl)
theorem dX8_even_14 : decode cX8_even 14 = .ok (.ifCond .le 5, 3) := dk_158 0 5 (dk_at dksX8_even_0 14 rfl rfl)
theorem dX8_even_17 : decode cX8_even 17 = .ok (.iconst 0, 1) := dk_3 (dk_at dksX8_even_0 17 rfl rfl)
theorem dX8_even_18 : decode cX8_even 18 = .ok (.ireturn, 1) := dk_172 (dk_at dksX8_even_0 18 rfl rfl)
theorem dX8_even_19 : decode cX8_even 19 = .ok (.aload_n 0, 1) := dk_42 (dk_at dksX8_even_0 19 rfl rfl)
theorem dX8_even_20 : decode cX8_even 20 = .ok (.iload_n 1, 1) := dk_27 (dk_at dksX8_even_0 20 rfl rfl)
theorem dX8_even_21 : decode cX8_even 21 = .ok (.iload_n 2, 1) := dk_28 (dk_at dksX8_even_0 21 rfl rfl)
theorem dX8_even_22 : decode cX8_even 22 = .ok (.invokevirtual 353, 3) := dk_182 1 97 (dk_at dksX8_even_1 0 rfl rfl)
theorem dX8_even_25 : decode cX8_even 25 = .ok (.aload_n 0, 1) := dk_42 (dk_at dksX8_even_1 3 rfl rfl)
theorem dX8_even_26 : decode cX8_even 26 = .ok (.iload_n 3, 1) := dk_29 (dk_at dksX8_even_1 4 rfl rfl)
theorem dX8_even_27 : decode cX8_even 27 = .ok (.invokevirtual 362, 3) := dk_182 1 106 (dk_at dksX8_even_1 5 rfl rfl)
theorem dX8_even_30 : decode cX8_even 30 = .ok (.ireturn, 1) := dk_172 (dk_at dksX8_even_1 8 rfl rfl)
abbrev cX8_evenAt : ByteArray := prog_29_method_75_code
def yX8_evenAt : MethodName := ⟨RX8, "evenAt", "(I)I"⟩
def dkwX8_evenAt_3 : List UInt8 := [160, 0, 7, 28, 167, 0, 4, 2, 172]
abbrev dktX8_evenAt_3 : List UInt8 := dkwX8_evenAt_3 ++ []
def dkwX8_evenAt_2 : List UInt8 := [29, 104, 21, 4, 96, 172, 132, 2, 1, 132, 4, 1, 167, 255, 213, 132, 3, 1, 167, 255, 194, 27, 2]
abbrev dktX8_evenAt_2 : List UInt8 := dkwX8_evenAt_2 ++ dktX8_evenAt_3
def dkwX8_evenAt_1 : List UInt8 := [46, 162, 0, 38, 42, 29, 21, 4, 182, 1, 103, 154, 0, 6, 167, 0, 19, 28, 27, 160, 0, 11, 16, 10]
abbrev dktX8_evenAt_1 : List UInt8 := dkwX8_evenAt_1 ++ dktX8_evenAt_2
def dkwX8_evenAt_0 : List UInt8 := [3, 61, 3, 62, 29, 42, 180, 0, 9, 6, 46, 162, 0, 58, 3, 54, 4, 21, 4, 42, 180, 0, 9, 6]
abbrev dktX8_evenAt_0 : List UInt8 := dkwX8_evenAt_0 ++ dktX8_evenAt_1
theorem dksX8_evenAt_0 : cX8_evenAt.data.toList.drop 0 = dktX8_evenAt_0 := by decide +kernel
theorem dksX8_evenAt_1 : cX8_evenAt.data.toList.drop 24 = dktX8_evenAt_1 := dk_seg dksX8_evenAt_0 24 rfl rfl
theorem dksX8_evenAt_2 : cX8_evenAt.data.toList.drop 48 = dktX8_evenAt_2 := dk_seg dksX8_evenAt_1 24 rfl rfl
theorem dksX8_evenAt_3 : cX8_evenAt.data.toList.drop 71 = dktX8_evenAt_3 := dk_seg dksX8_evenAt_2 23 rfl rfl
theorem dX8_evenAt_0 : decode cX8_evenAt 0 = .ok (.iconst 0, 1) := dk_3 (dk_at dksX8_evenAt_0 0 rfl rfl)
theorem dX8_evenAt_1 : decode cX8_evenAt 1 = .ok (.istore_n 2, 1) := dk_61 (dk_at dksX8_evenAt_0 1 rfl rfl)
theorem dX8_evenAt_2 : decode cX8_evenAt 2 = .ok (.iconst 0, 1) := dk_3 (dk_at dksX8_evenAt_0 2 rfl rfl)
theorem dX8_evenAt_3 : decode cX8_evenAt 3 = .ok (.istore_n 3, 1) := dk_62 (dk_at dksX8_evenAt_0 3 rfl rfl)
theorem dX8_evenAt_4 : decode cX8_evenAt 4 = .ok (.iload_n 3, 1) := dk_29 (dk_at dksX8_evenAt_0 4 rfl rfl)
theorem dX8_evenAt_5 : decode cX8_evenAt 5 = .ok (.aload_n 0, 1) := dk_42 (dk_at dksX8_evenAt_0 5 rfl rfl)
theorem dX8_evenAt_6 : decode cX8_evenAt 6 = .ok (.getfield 9, 3) := dk_180 0 9 (dk_at dksX8_evenAt_0 6 rfl rfl)
theorem dX8_evenAt_9 : decode cX8_evenAt 9 = .ok (.iconst 3, 1) := dk_6 (dk_at dksX8_evenAt_0 9 rfl rfl)
theorem dX8_evenAt_10 : decode cX8_evenAt 10 = .ok (.iaload, 1) := dk_46 (dk_at dksX8_evenAt_0 10 rfl rfl)
theorem dX8_evenAt_11 : decode cX8_evenAt 11 = .ok (.if_icmp .ge 58, 3) := dk_162 0 58 (dk_at dksX8_evenAt_0 11 rfl rfl)
theorem dX8_evenAt_14 : decode cX8_evenAt 14 = .ok (.iconst 0, 1) := dk_3 (dk_at dksX8_evenAt_0 14 rfl rfl)
theorem dX8_evenAt_15 : decode cX8_evenAt 15 = .ok (.istore 4, 2) := dk_54 4 (dk_at dksX8_evenAt_0 15 rfl rfl)
theorem dX8_evenAt_17 : decode cX8_evenAt 17 = .ok (.iload 4, 2) := dk_21 4 (dk_at dksX8_evenAt_0 17 rfl rfl)
theorem dX8_evenAt_19 : decode cX8_evenAt 19 = .ok (.aload_n 0, 1) := dk_42 (dk_at dksX8_evenAt_0 19 rfl rfl)
theorem dX8_evenAt_20 : decode cX8_evenAt 20 = .ok (.getfield 9, 3) := dk_180 0 9 (dk_at dksX8_evenAt_0 20 rfl rfl)
theorem dX8_evenAt_23 : decode cX8_evenAt 23 = .ok (.iconst 3, 1) := dk_6 (dk_at dksX8_evenAt_0 23 rfl rfl)
theorem dX8_evenAt_24 : decode cX8_evenAt 24 = .ok (.iaload, 1) := dk_46 (dk_at dksX8_evenAt_1 0 rfl rfl)
theorem dX8_evenAt_25 : decode cX8_evenAt 25 = .ok (.if_icmp .ge 38, 3) := dk_162 0 38 (dk_at dksX8_evenAt_1 1 rfl rfl)
theorem dX8_evenAt_28 : decode cX8_evenAt 28 = .ok (.aload_n 0, 1) := dk_42 (dk_at dksX8_evenAt_1 4 rfl rfl)
theorem dX8_evenAt_29 : decode cX8_evenAt 29 = .ok (.iload_n 3, 1) := dk_29 (dk_at dksX8_evenAt_1 5 rfl rfl)
theorem dX8_evenAt_30 : decode cX8_evenAt 30 = .ok (.iload 4, 2) := dk_21 4 (dk_at dksX8_evenAt_1 6 rfl rfl)
theorem dX8_evenAt_32 : decode cX8_evenAt 32 = .ok (.invokevirtual 359, 3) := dk_182 1 103 (dk_at dksX8_evenAt_1 8 rfl rfl)
theorem dX8_evenAt_35 : decode cX8_evenAt 35 = .ok (.ifCond .ne 6, 3) := dk_154 0 6 (dk_at dksX8_evenAt_1 11 rfl rfl)
theorem dX8_evenAt_38 : decode cX8_evenAt 38 = .ok (.goto 19, 3) := dk_167 0 19 (dk_at dksX8_evenAt_1 14 rfl rfl)
theorem dX8_evenAt_41 : decode cX8_evenAt 41 = .ok (.iload_n 2, 1) := dk_28 (dk_at dksX8_evenAt_1 17 rfl rfl)
theorem dX8_evenAt_42 : decode cX8_evenAt 42 = .ok (.iload_n 1, 1) := dk_27 (dk_at dksX8_evenAt_1 18 rfl rfl)
theorem dX8_evenAt_43 : decode cX8_evenAt 43 = .ok (.if_icmp .ne 11, 3) := dk_160 0 11 (dk_at dksX8_evenAt_1 19 rfl rfl)
theorem dX8_evenAt_46 : decode cX8_evenAt 46 = .ok (.bipush 10, 2) := dk_16 10 (dk_at dksX8_evenAt_1 22 rfl rfl)
theorem dX8_evenAt_48 : decode cX8_evenAt 48 = .ok (.iload_n 3, 1) := dk_29 (dk_at dksX8_evenAt_2 0 rfl rfl)
theorem dX8_evenAt_49 : decode cX8_evenAt 49 = .ok (.imul, 1) := dk_104 (dk_at dksX8_evenAt_2 1 rfl rfl)
theorem dX8_evenAt_50 : decode cX8_evenAt 50 = .ok (.iload 4, 2) := dk_21 4 (dk_at dksX8_evenAt_2 2 rfl rfl)
theorem dX8_evenAt_52 : decode cX8_evenAt 52 = .ok (.iadd, 1) := dk_96 (dk_at dksX8_evenAt_2 4 rfl rfl)
theorem dX8_evenAt_53 : decode cX8_evenAt 53 = .ok (.ireturn, 1) := dk_172 (dk_at dksX8_evenAt_2 5 rfl rfl)
theorem dX8_evenAt_54 : decode cX8_evenAt 54 = .ok (.iinc 2 1, 3) := dk_132 2 1 (dk_at dksX8_evenAt_2 6 rfl rfl)
theorem dX8_evenAt_57 : decode cX8_evenAt 57 = .ok (.iinc 4 1, 3) := dk_132 4 1 (dk_at dksX8_evenAt_2 9 rfl rfl)
theorem dX8_evenAt_60 : decode cX8_evenAt 60 = .ok (.goto (-43), 3) := dk_167 255 213 (dk_at dksX8_evenAt_2 12 rfl rfl)
theorem dX8_evenAt_63 : decode cX8_evenAt 63 = .ok (.iinc 3 1, 3) := dk_132 3 1 (dk_at dksX8_evenAt_2 15 rfl rfl)
theorem dX8_evenAt_66 : decode cX8_evenAt 66 = .ok (.goto (-62), 3) := dk_167 255 194 (dk_at dksX8_evenAt_2 18 rfl rfl)
theorem dX8_evenAt_69 : decode cX8_evenAt 69 = .ok (.iload_n 1, 1) := dk_27 (dk_at dksX8_evenAt_2 21 rfl rfl)
theorem dX8_evenAt_70 : decode cX8_evenAt 70 = .ok (.iconst (-1), 1) := dk_2 (dk_at dksX8_evenAt_2 22 rfl rfl)
theorem dX8_evenAt_71 : decode cX8_evenAt 71 = .ok (.if_icmp .ne 7, 3) := dk_160 0 7 (dk_at dksX8_evenAt_3 0 rfl rfl)
theorem dX8_evenAt_74 : decode cX8_evenAt 74 = .ok (.iload_n 2, 1) := dk_28 (dk_at dksX8_evenAt_3 3 rfl rfl)
theorem dX8_evenAt_75 : decode cX8_evenAt 75 = .ok (.goto 4, 3) := dk_167 0 4 (dk_at dksX8_evenAt_3 4 rfl rfl)
theorem dX8_evenAt_78 : decode cX8_evenAt 78 = .ok (.iconst (-1), 1) := dk_2 (dk_at dksX8_evenAt_3 7 rfl rfl)
theorem dX8_evenAt_79 : decode cX8_evenAt 79 = .ok (.ireturn, 1) := dk_172 (dk_at dksX8_evenAt_3 8 rfl rfl)
abbrev cX8_isEven : ByteArray := prog_29_method_74_code
def yX8_isEven : MethodName := ⟨RX8, "isEven", "(II)Z"⟩
def dkwX8_isEven_2 : List UInt8 := [172, 132, 3, 1, 167, 255, 207, 4, 172]
abbrev dktX8_isEven_2 : List UInt8 := dkwX8_isEven_2 ++ []
def dkwX8_isEven_1 : List UInt8 := [182, 1, 100, 163, 0, 20, 42, 27, 29, 4, 182, 1, 100, 42, 27, 28, 4, 182, 1, 100, 164, 0, 5, 3]
abbrev dktX8_isEven_1 : List UInt8 := dkwX8_isEven_1 ++ dktX8_isEven_2
def dkwX8_isEven_0 : List UInt8 := [3, 62, 29, 42, 180, 0, 9, 6, 46, 162, 0, 45, 42, 29, 28, 3, 182, 1, 100, 42, 27, 28, 3]
abbrev dktX8_isEven_0 : List UInt8 := dkwX8_isEven_0 ++ dktX8_isEven_1
theorem dksX8_isEven_0 : cX8_isEven.data.toList.drop 0 = dktX8_isEven_0 := by decide +kernel
theorem dksX8_isEven_1 : cX8_isEven.data.toList.drop 23 = dktX8_isEven_1 := dk_seg dksX8_isEven_0 23 rfl rfl
theorem dksX8_isEven_2 : cX8_isEven.data.toList.drop 47 = dktX8_isEven_2 := dk_seg dksX8_isEven_1 24 rfl rfl
theorem dX8_isEven_0 : decode cX8_isEven 0 = .ok (.iconst 0, 1) := dk_3 (dk_at dksX8_isEven_0 0 rfl rfl)
theorem dX8_isEven_1 : decode cX8_isEven 1 = .ok (.istore_n 3, 1) := dk_62 (dk_at dksX8_isEven_0 1 rfl rfl)
theorem dX8_isEven_2 : decode cX8_isEven 2 = .ok (.iload_n 3, 1) := dk_29 (dk_at dksX8_isEven_0 2 rfl rfl)
theorem dX8_isEven_3 : decode cX8_isEven 3 = .ok (.aload_n 0, 1) := dk_42 (dk_at dksX8_isEven_0 3 rfl rfl)
theorem dX8_isEven_4 : decode cX8_isEven 4 = .ok (.getfield 9, 3) := dk_180 0 9 (dk_at dksX8_isEven_0 4 rfl rfl)
theorem dX8_isEven_7 : decode cX8_isEven 7 = .ok (.iconst 3, 1) := dk_6 (dk_at dksX8_isEven_0 7 rfl rfl)
theorem dX8_isEven_8 : decode cX8_isEven 8 = .ok (.iaload, 1) := dk_46 (dk_at dksX8_isEven_0 8 rfl rfl)
theorem dX8_isEven_9 : decode cX8_isEven 9 = .ok (.if_icmp .ge 45, 3) := dk_162 0 45 (dk_at dksX8_isEven_0 9 rfl rfl)
theorem dX8_isEven_12 : decode cX8_isEven 12 = .ok (.aload_n 0, 1) := dk_42 (dk_at dksX8_isEven_0 12 rfl rfl)
theorem dX8_isEven_13 : decode cX8_isEven 13 = .ok (.iload_n 3, 1) := dk_29 (dk_at dksX8_isEven_0 13 rfl rfl)
theorem dX8_isEven_14 : decode cX8_isEven 14 = .ok (.iload_n 2, 1) := dk_28 (dk_at dksX8_isEven_0 14 rfl rfl)
theorem dX8_isEven_15 : decode cX8_isEven 15 = .ok (.iconst 0, 1) := dk_3 (dk_at dksX8_isEven_0 15 rfl rfl)
theorem dX8_isEven_16 : decode cX8_isEven 16 = .ok (.invokevirtual 356, 3) := dk_182 1 100 (dk_at dksX8_isEven_0 16 rfl rfl)
theorem dX8_isEven_19 : decode cX8_isEven 19 = .ok (.aload_n 0, 1) := dk_42 (dk_at dksX8_isEven_0 19 rfl rfl)
theorem dX8_isEven_20 : decode cX8_isEven 20 = .ok (.iload_n 1, 1) := dk_27 (dk_at dksX8_isEven_0 20 rfl rfl)
theorem dX8_isEven_21 : decode cX8_isEven 21 = .ok (.iload_n 2, 1) := dk_28 (dk_at dksX8_isEven_0 21 rfl rfl)
theorem dX8_isEven_22 : decode cX8_isEven 22 = .ok (.iconst 0, 1) := dk_3 (dk_at dksX8_isEven_0 22 rfl rfl)
theorem dX8_isEven_23 : decode cX8_isEven 23 = .ok (.invokevirtual 356, 3) := dk_182 1 100 (dk_at dksX8_isEven_1 0 rfl rfl)
theorem dX8_isEven_26 : decode cX8_isEven 26 = .ok (.if_icmp .gt 20, 3) := dk_163 0 20 (dk_at dksX8_isEven_1 3 rfl rfl)
theorem dX8_isEven_29 : decode cX8_isEven 29 = .ok (.aload_n 0, 1) := dk_42 (dk_at dksX8_isEven_1 6 rfl rfl)
theorem dX8_isEven_30 : decode cX8_isEven 30 = .ok (.iload_n 1, 1) := dk_27 (dk_at dksX8_isEven_1 7 rfl rfl)
theorem dX8_isEven_31 : decode cX8_isEven 31 = .ok (.iload_n 3, 1) := dk_29 (dk_at dksX8_isEven_1 8 rfl rfl)
theorem dX8_isEven_32 : decode cX8_isEven 32 = .ok (.iconst 1, 1) := dk_4 (dk_at dksX8_isEven_1 9 rfl rfl)
theorem dX8_isEven_33 : decode cX8_isEven 33 = .ok (.invokevirtual 356, 3) := dk_182 1 100 (dk_at dksX8_isEven_1 10 rfl rfl)
theorem dX8_isEven_36 : decode cX8_isEven 36 = .ok (.aload_n 0, 1) := dk_42 (dk_at dksX8_isEven_1 13 rfl rfl)
theorem dX8_isEven_37 : decode cX8_isEven 37 = .ok (.iload_n 1, 1) := dk_27 (dk_at dksX8_isEven_1 14 rfl rfl)
theorem dX8_isEven_38 : decode cX8_isEven 38 = .ok (.iload_n 2, 1) := dk_28 (dk_at dksX8_isEven_1 15 rfl rfl)
theorem dX8_isEven_39 : decode cX8_isEven 39 = .ok (.iconst 1, 1) := dk_4 (dk_at dksX8_isEven_1 16 rfl rfl)
theorem dX8_isEven_40 : decode cX8_isEven 40 = .ok (.invokevirtual 356, 3) := dk_182 1 100 (dk_at dksX8_isEven_1 17 rfl rfl)
theorem dX8_isEven_43 : decode cX8_isEven 43 = .ok (.if_icmp .le 5, 3) := dk_164 0 5 (dk_at dksX8_isEven_1 20 rfl rfl)
theorem dX8_isEven_46 : decode cX8_isEven 46 = .ok (.iconst 0, 1) := dk_3 (dk_at dksX8_isEven_1 23 rfl rfl)
theorem dX8_isEven_47 : decode cX8_isEven 47 = .ok (.ireturn, 1) := dk_172 (dk_at dksX8_isEven_2 0 rfl rfl)
theorem dX8_isEven_48 : decode cX8_isEven 48 = .ok (.iinc 3 1, 3) := dk_132 3 1 (dk_at dksX8_isEven_2 1 rfl rfl)
theorem dX8_isEven_51 : decode cX8_isEven 51 = .ok (.goto (-49), 3) := dk_167 255 207 (dk_at dksX8_isEven_2 4 rfl rfl)
theorem dX8_isEven_54 : decode cX8_isEven 54 = .ok (.iconst 1, 1) := dk_4 (dk_at dksX8_isEven_2 7 rfl rfl)
theorem dX8_isEven_55 : decode cX8_isEven 55 = .ok (.ireturn, 1) := dk_172 (dk_at dksX8_isEven_2 8 rfl rfl)
abbrev cX8_joint : ByteArray := prog_29_method_78_code
def yX8_joint : MethodName := ⟨RX8, "joint", "(II)I"⟩
def dkwX8_joint_4 : List UInt8 := [132, 5, 1, 167, 255, 205, 132, 4, 1, 167, 255, 185, 29, 172]
abbrev dktX8_joint_4 : List UInt8 := dkwX8_joint_4 ++ []
def dkwX8_joint_3 : List UInt8 := [16, 10, 108, 29, 16, 10, 112, 182, 1, 109, 164, 0, 12, 16, 10, 21, 4, 104, 21, 5, 96, 62]
abbrev dktX8_joint_3 : List UInt8 := dkwX8_joint_3 ++ dktX8_joint_4
def dkwX8_joint_2 : List UInt8 := [42, 180, 0, 9, 6, 46, 162, 0, 46, 29, 2, 159, 0, 26, 42, 21, 4, 21, 5, 182, 1, 109, 42, 29]
abbrev dktX8_joint_2 : List UInt8 := dkwX8_joint_2 ++ dktX8_joint_3
def dkwX8_joint_1 : List UInt8 := [182, 1, 97, 2, 62, 3, 54, 4, 21, 4, 42, 180, 0, 9, 6, 46, 162, 0, 66, 3, 54, 5, 21, 5]
abbrev dktX8_joint_1 : List UInt8 := dkwX8_joint_1 ++ dktX8_joint_2
def dkwX8_joint_0 : List UInt8 := [42, 42, 27, 28, 182, 1, 91, 181, 0, 76, 42, 180, 0, 76, 158, 0, 5, 3, 172, 42, 27, 28]
abbrev dktX8_joint_0 : List UInt8 := dkwX8_joint_0 ++ dktX8_joint_1
theorem dksX8_joint_0 : cX8_joint.data.toList.drop 0 = dktX8_joint_0 := by decide +kernel
theorem dksX8_joint_1 : cX8_joint.data.toList.drop 22 = dktX8_joint_1 := dk_seg dksX8_joint_0 22 rfl rfl
theorem dksX8_joint_2 : cX8_joint.data.toList.drop 46 = dktX8_joint_2 := dk_seg dksX8_joint_1 24 rfl rfl
theorem dksX8_joint_3 : cX8_joint.data.toList.drop 70 = dktX8_joint_3 := dk_seg dksX8_joint_2 24 rfl rfl
theorem dksX8_joint_4 : cX8_joint.data.toList.drop 92 = dktX8_joint_4 := dk_seg dksX8_joint_3 22 rfl rfl
theorem dX8_joint_0 : decode cX8_joint 0 = .ok (.aload_n 0, 1) := dk_42 (dk_at dksX8_joint_0 0 rfl rfl)
theorem dX8_joint_1 : decode cX8_joint 1 = .ok (.aload_n 0, 1) := dk_42 (dk_at dksX8_joint_0 1 rfl rfl)
theorem dX8_joint_2 : decode cX8_joint 2 = .ok (.iload_n 1, 1) := dk_27 (dk_at dksX8_joint_0 2 rfl rfl)
theorem dX8_joint_3 : decode cX8_joint 3 = .ok (.iload_n 2, 1) := dk_28 (dk_at dksX8_joint_0 3 rfl rfl)
theorem dX8_joint_4 : decode cX8_joint 4 = .ok (.invokevirtual 347, 3) := dk_182 1 91 (dk_at dksX8_joint_0 4 rfl rfl)
theorem dX8_joint_7 : decode cX8_joint 7 = .ok (.putfield 76, 3) := dk_181 0 76 (dk_at dksX8_joint_0 7 rfl rfl)
theorem dX8_joint_10 : decode cX8_joint 10 = .ok (.aload_n 0, 1) := dk_42 (dk_at dksX8_joint_0 10 rfl rfl)
theorem dX8_joint_11 : decode cX8_joint 11 = .ok (.getfield 76, 3) := dk_180 0 76 (dk_at dksX8_joint_0 11 rfl rfl)
theorem dX8_joint_14 : decode cX8_joint 14 = .ok (.ifCond .le 5, 3) := dk_158 0 5 (dk_at dksX8_joint_0 14 rfl rfl)
theorem dX8_joint_17 : decode cX8_joint 17 = .ok (.iconst 0, 1) := dk_3 (dk_at dksX8_joint_0 17 rfl rfl)
theorem dX8_joint_18 : decode cX8_joint 18 = .ok (.ireturn, 1) := dk_172 (dk_at dksX8_joint_0 18 rfl rfl)
theorem dX8_joint_19 : decode cX8_joint 19 = .ok (.aload_n 0, 1) := dk_42 (dk_at dksX8_joint_0 19 rfl rfl)
theorem dX8_joint_20 : decode cX8_joint 20 = .ok (.iload_n 1, 1) := dk_27 (dk_at dksX8_joint_0 20 rfl rfl)
theorem dX8_joint_21 : decode cX8_joint 21 = .ok (.iload_n 2, 1) := dk_28 (dk_at dksX8_joint_0 21 rfl rfl)
theorem dX8_joint_22 : decode cX8_joint 22 = .ok (.invokevirtual 353, 3) := dk_182 1 97 (dk_at dksX8_joint_1 0 rfl rfl)
theorem dX8_joint_25 : decode cX8_joint 25 = .ok (.iconst (-1), 1) := dk_2 (dk_at dksX8_joint_1 3 rfl rfl)
theorem dX8_joint_26 : decode cX8_joint 26 = .ok (.istore_n 3, 1) := dk_62 (dk_at dksX8_joint_1 4 rfl rfl)
theorem dX8_joint_27 : decode cX8_joint 27 = .ok (.iconst 0, 1) := dk_3 (dk_at dksX8_joint_1 5 rfl rfl)
theorem dX8_joint_28 : decode cX8_joint 28 = .ok (.istore 4, 2) := dk_54 4 (dk_at dksX8_joint_1 6 rfl rfl)
theorem dX8_joint_30 : decode cX8_joint 30 = .ok (.iload 4, 2) := dk_21 4 (dk_at dksX8_joint_1 8 rfl rfl)
theorem dX8_joint_32 : decode cX8_joint 32 = .ok (.aload_n 0, 1) := dk_42 (dk_at dksX8_joint_1 10 rfl rfl)
theorem dX8_joint_33 : decode cX8_joint 33 = .ok (.getfield 9, 3) := dk_180 0 9 (dk_at dksX8_joint_1 11 rfl rfl)
theorem dX8_joint_36 : decode cX8_joint 36 = .ok (.iconst 3, 1) := dk_6 (dk_at dksX8_joint_1 14 rfl rfl)
theorem dX8_joint_37 : decode cX8_joint 37 = .ok (.iaload, 1) := dk_46 (dk_at dksX8_joint_1 15 rfl rfl)
theorem dX8_joint_38 : decode cX8_joint 38 = .ok (.if_icmp .ge 66, 3) := dk_162 0 66 (dk_at dksX8_joint_1 16 rfl rfl)
theorem dX8_joint_41 : decode cX8_joint 41 = .ok (.iconst 0, 1) := dk_3 (dk_at dksX8_joint_1 19 rfl rfl)
theorem dX8_joint_42 : decode cX8_joint 42 = .ok (.istore 5, 2) := dk_54 5 (dk_at dksX8_joint_1 20 rfl rfl)
theorem dX8_joint_44 : decode cX8_joint 44 = .ok (.iload 5, 2) := dk_21 5 (dk_at dksX8_joint_1 22 rfl rfl)
theorem dX8_joint_46 : decode cX8_joint 46 = .ok (.aload_n 0, 1) := dk_42 (dk_at dksX8_joint_2 0 rfl rfl)
theorem dX8_joint_47 : decode cX8_joint 47 = .ok (.getfield 9, 3) := dk_180 0 9 (dk_at dksX8_joint_2 1 rfl rfl)
theorem dX8_joint_50 : decode cX8_joint 50 = .ok (.iconst 3, 1) := dk_6 (dk_at dksX8_joint_2 4 rfl rfl)
theorem dX8_joint_51 : decode cX8_joint 51 = .ok (.iaload, 1) := dk_46 (dk_at dksX8_joint_2 5 rfl rfl)
theorem dX8_joint_52 : decode cX8_joint 52 = .ok (.if_icmp .ge 46, 3) := dk_162 0 46 (dk_at dksX8_joint_2 6 rfl rfl)
theorem dX8_joint_55 : decode cX8_joint 55 = .ok (.iload_n 3, 1) := dk_29 (dk_at dksX8_joint_2 9 rfl rfl)
theorem dX8_joint_56 : decode cX8_joint 56 = .ok (.iconst (-1), 1) := dk_2 (dk_at dksX8_joint_2 10 rfl rfl)
theorem dX8_joint_57 : decode cX8_joint 57 = .ok (.if_icmp .eq 26, 3) := dk_159 0 26 (dk_at dksX8_joint_2 11 rfl rfl)
theorem dX8_joint_60 : decode cX8_joint 60 = .ok (.aload_n 0, 1) := dk_42 (dk_at dksX8_joint_2 14 rfl rfl)
theorem dX8_joint_61 : decode cX8_joint 61 = .ok (.iload 4, 2) := dk_21 4 (dk_at dksX8_joint_2 15 rfl rfl)
theorem dX8_joint_63 : decode cX8_joint 63 = .ok (.iload 5, 2) := dk_21 5 (dk_at dksX8_joint_2 17 rfl rfl)
theorem dX8_joint_65 : decode cX8_joint 65 = .ok (.invokevirtual 365, 3) := dk_182 1 109 (dk_at dksX8_joint_2 19 rfl rfl)
theorem dX8_joint_68 : decode cX8_joint 68 = .ok (.aload_n 0, 1) := dk_42 (dk_at dksX8_joint_2 22 rfl rfl)
theorem dX8_joint_69 : decode cX8_joint 69 = .ok (.iload_n 3, 1) := dk_29 (dk_at dksX8_joint_2 23 rfl rfl)
theorem dX8_joint_70 : decode cX8_joint 70 = .ok (.bipush 10, 2) := dk_16 10 (dk_at dksX8_joint_3 0 rfl rfl)
theorem dX8_joint_72 : decode cX8_joint 72 = .ok (.idiv, 1) := dk_108 (dk_at dksX8_joint_3 2 rfl rfl)
theorem dX8_joint_73 : decode cX8_joint 73 = .ok (.iload_n 3, 1) := dk_29 (dk_at dksX8_joint_3 3 rfl rfl)
theorem dX8_joint_74 : decode cX8_joint 74 = .ok (.bipush 10, 2) := dk_16 10 (dk_at dksX8_joint_3 4 rfl rfl)
theorem dX8_joint_76 : decode cX8_joint 76 = .ok (.irem, 1) := dk_112 (dk_at dksX8_joint_3 6 rfl rfl)
theorem dX8_joint_77 : decode cX8_joint 77 = .ok (.invokevirtual 365, 3) := dk_182 1 109 (dk_at dksX8_joint_3 7 rfl rfl)
theorem dX8_joint_80 : decode cX8_joint 80 = .ok (.if_icmp .le 12, 3) := dk_164 0 12 (dk_at dksX8_joint_3 10 rfl rfl)
theorem dX8_joint_83 : decode cX8_joint 83 = .ok (.bipush 10, 2) := dk_16 10 (dk_at dksX8_joint_3 13 rfl rfl)
theorem dX8_joint_85 : decode cX8_joint 85 = .ok (.iload 4, 2) := dk_21 4 (dk_at dksX8_joint_3 15 rfl rfl)
theorem dX8_joint_87 : decode cX8_joint 87 = .ok (.imul, 1) := dk_104 (dk_at dksX8_joint_3 17 rfl rfl)
theorem dX8_joint_88 : decode cX8_joint 88 = .ok (.iload 5, 2) := dk_21 5 (dk_at dksX8_joint_3 18 rfl rfl)
theorem dX8_joint_90 : decode cX8_joint 90 = .ok (.iadd, 1) := dk_96 (dk_at dksX8_joint_3 20 rfl rfl)
theorem dX8_joint_91 : decode cX8_joint 91 = .ok (.istore_n 3, 1) := dk_62 (dk_at dksX8_joint_3 21 rfl rfl)
theorem dX8_joint_92 : decode cX8_joint 92 = .ok (.iinc 5 1, 3) := dk_132 5 1 (dk_at dksX8_joint_4 0 rfl rfl)
theorem dX8_joint_95 : decode cX8_joint 95 = .ok (.goto (-51), 3) := dk_167 255 205 (dk_at dksX8_joint_4 3 rfl rfl)
theorem dX8_joint_98 : decode cX8_joint 98 = .ok (.iinc 4 1, 3) := dk_132 4 1 (dk_at dksX8_joint_4 6 rfl rfl)
theorem dX8_joint_101 : decode cX8_joint 101 = .ok (.goto (-71), 3) := dk_167 255 185 (dk_at dksX8_joint_4 9 rfl rfl)
theorem dX8_joint_104 : decode cX8_joint 104 = .ok (.iload_n 3, 1) := dk_29 (dk_at dksX8_joint_4 12 rfl rfl)
theorem dX8_joint_105 : decode cX8_joint 105 = .ok (.ireturn, 1) := dk_172 (dk_at dksX8_joint_4 13 rfl rfl)
abbrev cX8_together : ByteArray := prog_29_method_77_code
def yX8_together : MethodName := ⟨RX8, "together", "(II)I"⟩
def dkwX8_together_0 : List UInt8 := [42, 27, 28, 3, 182, 1, 100, 42, 27, 28, 4, 182, 1, 100, 96, 172]
abbrev dktX8_together_0 : List UInt8 := dkwX8_together_0 ++ []
theorem dksX8_together_0 : cX8_together.data.toList.drop 0 = dktX8_together_0 := by decide +kernel
theorem dX8_together_0 : decode cX8_together 0 = .ok (.aload_n 0, 1) := dk_42 (dk_at dksX8_together_0 0 rfl rfl)
theorem dX8_together_1 : decode cX8_together 1 = .ok (.iload_n 1, 1) := dk_27 (dk_at dksX8_together_0 1 rfl rfl)
theorem dX8_together_2 : decode cX8_together 2 = .ok (.iload_n 2, 1) := dk_28 (dk_at dksX8_together_0 2 rfl rfl)
theorem dX8_together_3 : decode cX8_together 3 = .ok (.iconst 0, 1) := dk_3 (dk_at dksX8_together_0 3 rfl rfl)
theorem dX8_together_4 : decode cX8_together 4 = .ok (.invokevirtual 356, 3) := dk_182 1 100 (dk_at dksX8_together_0 4 rfl rfl)
theorem dX8_together_7 : decode cX8_together 7 = .ok (.aload_n 0, 1) := dk_42 (dk_at dksX8_together_0 7 rfl rfl)
theorem dX8_together_8 : decode cX8_together 8 = .ok (.iload_n 1, 1) := dk_27 (dk_at dksX8_together_0 8 rfl rfl)
theorem dX8_together_9 : decode cX8_together 9 = .ok (.iload_n 2, 1) := dk_28 (dk_at dksX8_together_0 9 rfl rfl)
theorem dX8_together_10 : decode cX8_together 10 = .ok (.iconst 1, 1) := dk_4 (dk_at dksX8_together_0 10 rfl rfl)
theorem dX8_together_11 : decode cX8_together 11 = .ok (.invokevirtual 356, 3) := dk_182 1 100 (dk_at dksX8_together_0 11 rfl rfl)
theorem dX8_together_14 : decode cX8_together 14 = .ok (.iadd, 1) := dk_96 (dk_at dksX8_together_0 14 rfl rfl)
theorem dX8_together_15 : decode cX8_together 15 = .ok (.ireturn, 1) := dk_172 (dk_at dksX8_together_0 15 rfl rfl)
abbrev cX8_turn : ByteArray := prog_29_method_81_code
def yX8_turn : MethodName := ⟨RX8, "turn", "(IIIII)I"⟩
def dkwX8_turn_3 : List UInt8 := [46, 54, 6, 132, 7, 1, 167, 255, 231, 42, 180, 0, 52, 16, 8, 21, 5, 104, 21, 6, 96, 46, 172]
abbrev dktX8_turn_3 : List UInt8 := dkwX8_turn_3 ++ []
def dkwX8_turn_2 : List UInt8 := [54, 6, 3, 54, 7, 21, 7, 21, 5, 162, 0, 24, 42, 180, 0, 52, 16, 8, 21, 7, 104, 21, 6, 96]
abbrev dktX8_turn_2 : List UInt8 := dkwX8_turn_2 ++ dktX8_turn_3
def dkwX8_turn_1 : List UInt8 := [133, 9, 21, 4, 4, 100, 133, 184, 0, 79, 154, 0, 5, 2, 172, 42, 27, 28, 21, 4, 182, 1, 118, 29]
abbrev dktX8_turn_1 : List UInt8 := dkwX8_turn_1 ++ dktX8_turn_2
def dkwX8_turn_0 : List UInt8 := [42, 42, 27, 28, 29, 21, 4, 182, 1, 114, 181, 0, 76, 42, 180, 0, 76, 158, 0, 5, 3, 172, 21, 5]
abbrev dktX8_turn_0 : List UInt8 := dkwX8_turn_0 ++ dktX8_turn_1
theorem dksX8_turn_0 : cX8_turn.data.toList.drop 0 = dktX8_turn_0 := by decide +kernel
theorem dksX8_turn_1 : cX8_turn.data.toList.drop 24 = dktX8_turn_1 := dk_seg dksX8_turn_0 24 rfl rfl
theorem dksX8_turn_2 : cX8_turn.data.toList.drop 48 = dktX8_turn_2 := dk_seg dksX8_turn_1 24 rfl rfl
theorem dksX8_turn_3 : cX8_turn.data.toList.drop 72 = dktX8_turn_3 := dk_seg dksX8_turn_2 24 rfl rfl
theorem dX8_turn_0 : decode cX8_turn 0 = .ok (.aload_n 0, 1) := dk_42 (dk_at dksX8_turn_0 0 rfl rfl)
theorem dX8_turn_1 : decode cX8_turn 1 = .ok (.aload_n 0, 1) := dk_42 (dk_at dksX8_turn_0 1 rfl rfl)
theorem dX8_turn_2 : decode cX8_turn 2 = .ok (.iload_n 1, 1) := dk_27 (dk_at dksX8_turn_0 2 rfl rfl)
theorem dX8_turn_3 : decode cX8_turn 3 = .ok (.iload_n 2, 1) := dk_28 (dk_at dksX8_turn_0 3 rfl rfl)
theorem dX8_turn_4 : decode cX8_turn 4 = .ok (.iload_n 3, 1) := dk_29 (dk_at dksX8_turn_0 4 rfl rfl)
theorem dX8_turn_5 : decode cX8_turn 5 = .ok (.iload 4, 2) := dk_21 4 (dk_at dksX8_turn_0 5 rfl rfl)
theorem dX8_turn_7 : decode cX8_turn 7 = .ok (.invokevirtual 370, 3) := dk_182 1 114 (dk_at dksX8_turn_0 7 rfl rfl)
theorem dX8_turn_10 : decode cX8_turn 10 = .ok (.putfield 76, 3) := dk_181 0 76 (dk_at dksX8_turn_0 10 rfl rfl)
theorem dX8_turn_13 : decode cX8_turn 13 = .ok (.aload_n 0, 1) := dk_42 (dk_at dksX8_turn_0 13 rfl rfl)
theorem dX8_turn_14 : decode cX8_turn 14 = .ok (.getfield 76, 3) := dk_180 0 76 (dk_at dksX8_turn_0 14 rfl rfl)
theorem dX8_turn_17 : decode cX8_turn 17 = .ok (.ifCond .le 5, 3) := dk_158 0 5 (dk_at dksX8_turn_0 17 rfl rfl)
theorem dX8_turn_20 : decode cX8_turn 20 = .ok (.iconst 0, 1) := dk_3 (dk_at dksX8_turn_0 20 rfl rfl)
theorem dX8_turn_21 : decode cX8_turn 21 = .ok (.ireturn, 1) := dk_172 (dk_at dksX8_turn_0 21 rfl rfl)
theorem dX8_turn_22 : decode cX8_turn 22 = .ok (.iload 5, 2) := dk_21 5 (dk_at dksX8_turn_0 22 rfl rfl)
theorem dX8_turn_24 : decode cX8_turn 24 = .ok (.i2l, 1) := dk_133 (dk_at dksX8_turn_1 0 rfl rfl)
theorem dX8_turn_25 : decode cX8_turn 25 = .ok (.lconst 0, 1) := dk_9 (dk_at dksX8_turn_1 1 rfl rfl)
theorem dX8_turn_26 : decode cX8_turn 26 = .ok (.iload 4, 2) := dk_21 4 (dk_at dksX8_turn_1 2 rfl rfl)
theorem dX8_turn_28 : decode cX8_turn 28 = .ok (.iconst 1, 1) := dk_4 (dk_at dksX8_turn_1 4 rfl rfl)
theorem dX8_turn_29 : decode cX8_turn 29 = .ok (.isub, 1) := dk_100 (dk_at dksX8_turn_1 5 rfl rfl)
theorem dX8_turn_30 : decode cX8_turn 30 = .ok (.i2l, 1) := dk_133 (dk_at dksX8_turn_1 6 rfl rfl)
theorem dX8_turn_31 : decode cX8_turn 31 = .ok (.invokestatic 79, 3) := dk_184 0 79 (dk_at dksX8_turn_1 7 rfl rfl)
theorem dX8_turn_34 : decode cX8_turn 34 = .ok (.ifCond .ne 5, 3) := dk_154 0 5 (dk_at dksX8_turn_1 10 rfl rfl)
theorem dX8_turn_37 : decode cX8_turn 37 = .ok (.iconst (-1), 1) := dk_2 (dk_at dksX8_turn_1 13 rfl rfl)
theorem dX8_turn_38 : decode cX8_turn 38 = .ok (.ireturn, 1) := dk_172 (dk_at dksX8_turn_1 14 rfl rfl)
theorem dX8_turn_39 : decode cX8_turn 39 = .ok (.aload_n 0, 1) := dk_42 (dk_at dksX8_turn_1 15 rfl rfl)
theorem dX8_turn_40 : decode cX8_turn 40 = .ok (.iload_n 1, 1) := dk_27 (dk_at dksX8_turn_1 16 rfl rfl)
theorem dX8_turn_41 : decode cX8_turn 41 = .ok (.iload_n 2, 1) := dk_28 (dk_at dksX8_turn_1 17 rfl rfl)
theorem dX8_turn_42 : decode cX8_turn 42 = .ok (.iload 4, 2) := dk_21 4 (dk_at dksX8_turn_1 18 rfl rfl)
theorem dX8_turn_44 : decode cX8_turn 44 = .ok (.invokevirtual 374, 3) := dk_182 1 118 (dk_at dksX8_turn_1 20 rfl rfl)
theorem dX8_turn_47 : decode cX8_turn 47 = .ok (.iload_n 3, 1) := dk_29 (dk_at dksX8_turn_1 23 rfl rfl)
theorem dX8_turn_48 : decode cX8_turn 48 = .ok (.istore 6, 2) := dk_54 6 (dk_at dksX8_turn_2 0 rfl rfl)
theorem dX8_turn_50 : decode cX8_turn 50 = .ok (.iconst 0, 1) := dk_3 (dk_at dksX8_turn_2 2 rfl rfl)
theorem dX8_turn_51 : decode cX8_turn 51 = .ok (.istore 7, 2) := dk_54 7 (dk_at dksX8_turn_2 3 rfl rfl)
theorem dX8_turn_53 : decode cX8_turn 53 = .ok (.iload 7, 2) := dk_21 7 (dk_at dksX8_turn_2 5 rfl rfl)
theorem dX8_turn_55 : decode cX8_turn 55 = .ok (.iload 5, 2) := dk_21 5 (dk_at dksX8_turn_2 7 rfl rfl)
theorem dX8_turn_57 : decode cX8_turn 57 = .ok (.if_icmp .ge 24, 3) := dk_162 0 24 (dk_at dksX8_turn_2 9 rfl rfl)
theorem dX8_turn_60 : decode cX8_turn 60 = .ok (.aload_n 0, 1) := dk_42 (dk_at dksX8_turn_2 12 rfl rfl)
theorem dX8_turn_61 : decode cX8_turn 61 = .ok (.getfield 52, 3) := dk_180 0 52 (dk_at dksX8_turn_2 13 rfl rfl)
theorem dX8_turn_64 : decode cX8_turn 64 = .ok (.bipush 8, 2) := dk_16 8 (dk_at dksX8_turn_2 16 rfl rfl)
theorem dX8_turn_66 : decode cX8_turn 66 = .ok (.iload 7, 2) := dk_21 7 (dk_at dksX8_turn_2 18 rfl rfl)
theorem dX8_turn_68 : decode cX8_turn 68 = .ok (.imul, 1) := dk_104 (dk_at dksX8_turn_2 20 rfl rfl)
theorem dX8_turn_69 : decode cX8_turn 69 = .ok (.iload 6, 2) := dk_21 6 (dk_at dksX8_turn_2 21 rfl rfl)
theorem dX8_turn_71 : decode cX8_turn 71 = .ok (.iadd, 1) := dk_96 (dk_at dksX8_turn_2 23 rfl rfl)
theorem dX8_turn_72 : decode cX8_turn 72 = .ok (.iaload, 1) := dk_46 (dk_at dksX8_turn_3 0 rfl rfl)
theorem dX8_turn_73 : decode cX8_turn 73 = .ok (.istore 6, 2) := dk_54 6 (dk_at dksX8_turn_3 1 rfl rfl)
theorem dX8_turn_75 : decode cX8_turn 75 = .ok (.iinc 7 1, 3) := dk_132 7 1 (dk_at dksX8_turn_3 3 rfl rfl)
theorem dX8_turn_78 : decode cX8_turn 78 = .ok (.goto (-25), 3) := dk_167 255 231 (dk_at dksX8_turn_3 6 rfl rfl)
theorem dX8_turn_81 : decode cX8_turn 81 = .ok (.aload_n 0, 1) := dk_42 (dk_at dksX8_turn_3 9 rfl rfl)
theorem dX8_turn_82 : decode cX8_turn 82 = .ok (.getfield 52, 3) := dk_180 0 52 (dk_at dksX8_turn_3 10 rfl rfl)
theorem dX8_turn_85 : decode cX8_turn 85 = .ok (.bipush 8, 2) := dk_16 8 (dk_at dksX8_turn_3 13 rfl rfl)
theorem dX8_turn_87 : decode cX8_turn 87 = .ok (.iload 5, 2) := dk_21 5 (dk_at dksX8_turn_3 15 rfl rfl)
theorem dX8_turn_89 : decode cX8_turn 89 = .ok (.imul, 1) := dk_104 (dk_at dksX8_turn_3 17 rfl rfl)
theorem dX8_turn_90 : decode cX8_turn 90 = .ok (.iload 6, 2) := dk_21 6 (dk_at dksX8_turn_3 18 rfl rfl)
theorem dX8_turn_92 : decode cX8_turn 92 = .ok (.iadd, 1) := dk_96 (dk_at dksX8_turn_3 20 rfl rfl)
theorem dX8_turn_93 : decode cX8_turn 93 = .ok (.iaload, 1) := dk_46 (dk_at dksX8_turn_3 21 rfl rfl)
theorem dX8_turn_94 : decode cX8_turn 94 = .ok (.ireturn, 1) := dk_172 (dk_at dksX8_turn_3 22 rfl rfl)
abbrev cX8_turnFault : ByteArray := prog_29_method_79_code
def yX8_turnFault : MethodName := ⟨RX8, "turnFault", "(IIII)I"⟩
def dkwX8_turnFault_2 : List UInt8 := [167, 0, 4, 6, 172]
abbrev dktX8_turnFault_2 : List UInt8 := dkwX8_turnFault_2 ++ []
def dkwX8_turnFault_1 : List UInt8 := [20, 1, 112, 184, 0, 79, 154, 0, 7, 5, 167, 0, 16, 42, 29, 182, 1, 94, 153, 0, 7, 3]
abbrev dktX8_turnFault_1 : List UInt8 := dkwX8_turnFault_1 ++ dktX8_turnFault_2
def dkwX8_turnFault_0 : List UInt8 := [42, 27, 28, 182, 1, 91, 158, 0, 12, 42, 27, 28, 182, 1, 91, 167, 0, 33, 21, 4, 133, 10]
abbrev dktX8_turnFault_0 : List UInt8 := dkwX8_turnFault_0 ++ dktX8_turnFault_1
theorem dksX8_turnFault_0 : cX8_turnFault.data.toList.drop 0 = dktX8_turnFault_0 := by decide +kernel
theorem dksX8_turnFault_1 : cX8_turnFault.data.toList.drop 22 = dktX8_turnFault_1 := dk_seg dksX8_turnFault_0 22 rfl rfl
theorem dksX8_turnFault_2 : cX8_turnFault.data.toList.drop 44 = dktX8_turnFault_2 := dk_seg dksX8_turnFault_1 22 rfl rfl
theorem dX8_turnFault_0 : decode cX8_turnFault 0 = .ok (.aload_n 0, 1) := dk_42 (dk_at dksX8_turnFault_0 0 rfl rfl)
theorem dX8_turnFault_1 : decode cX8_turnFault 1 = .ok (.iload_n 1, 1) := dk_27 (dk_at dksX8_turnFault_0 1 rfl rfl)
theorem dX8_turnFault_2 : decode cX8_turnFault 2 = .ok (.iload_n 2, 1) := dk_28 (dk_at dksX8_turnFault_0 2 rfl rfl)
theorem dX8_turnFault_3 : decode cX8_turnFault 3 = .ok (.invokevirtual 347, 3) := dk_182 1 91 (dk_at dksX8_turnFault_0 3 rfl rfl)
theorem dX8_turnFault_6 : decode cX8_turnFault 6 = .ok (.ifCond .le 12, 3) := dk_158 0 12 (dk_at dksX8_turnFault_0 6 rfl rfl)
theorem dX8_turnFault_9 : decode cX8_turnFault 9 = .ok (.aload_n 0, 1) := dk_42 (dk_at dksX8_turnFault_0 9 rfl rfl)
theorem dX8_turnFault_10 : decode cX8_turnFault 10 = .ok (.iload_n 1, 1) := dk_27 (dk_at dksX8_turnFault_0 10 rfl rfl)
theorem dX8_turnFault_11 : decode cX8_turnFault 11 = .ok (.iload_n 2, 1) := dk_28 (dk_at dksX8_turnFault_0 11 rfl rfl)
theorem dX8_turnFault_12 : decode cX8_turnFault 12 = .ok (.invokevirtual 347, 3) := dk_182 1 91 (dk_at dksX8_turnFault_0 12 rfl rfl)
theorem dX8_turnFault_15 : decode cX8_turnFault 15 = .ok (.goto 33, 3) := dk_167 0 33 (dk_at dksX8_turnFault_0 15 rfl rfl)
theorem dX8_turnFault_18 : decode cX8_turnFault 18 = .ok (.iload 4, 2) := dk_21 4 (dk_at dksX8_turnFault_0 18 rfl rfl)
theorem dX8_turnFault_20 : decode cX8_turnFault 20 = .ok (.i2l, 1) := dk_133 (dk_at dksX8_turnFault_0 20 rfl rfl)
theorem dX8_turnFault_21 : decode cX8_turnFault 21 = .ok (.lconst 1, 1) := dk_10 (dk_at dksX8_turnFault_0 21 rfl rfl)
theorem dX8_turnFault_22 : decode cX8_turnFault 22 = .ok (.ldc2_w 368, 3) := dk_20 1 112 (dk_at dksX8_turnFault_1 0 rfl rfl)
theorem dX8_turnFault_25 : decode cX8_turnFault 25 = .ok (.invokestatic 79, 3) := dk_184 0 79 (dk_at dksX8_turnFault_1 3 rfl rfl)
theorem dX8_turnFault_28 : decode cX8_turnFault 28 = .ok (.ifCond .ne 7, 3) := dk_154 0 7 (dk_at dksX8_turnFault_1 6 rfl rfl)
theorem dX8_turnFault_31 : decode cX8_turnFault 31 = .ok (.iconst 2, 1) := dk_5 (dk_at dksX8_turnFault_1 9 rfl rfl)
theorem dX8_turnFault_32 : decode cX8_turnFault 32 = .ok (.goto 16, 3) := dk_167 0 16 (dk_at dksX8_turnFault_1 10 rfl rfl)
theorem dX8_turnFault_35 : decode cX8_turnFault 35 = .ok (.aload_n 0, 1) := dk_42 (dk_at dksX8_turnFault_1 13 rfl rfl)
theorem dX8_turnFault_36 : decode cX8_turnFault 36 = .ok (.iload_n 3, 1) := dk_29 (dk_at dksX8_turnFault_1 14 rfl rfl)
theorem dX8_turnFault_37 : decode cX8_turnFault 37 = .ok (.invokevirtual 350, 3) := dk_182 1 94 (dk_at dksX8_turnFault_1 15 rfl rfl)
theorem dX8_turnFault_40 : decode cX8_turnFault 40 = .ok (.ifCond .eq 7, 3) := dk_153 0 7 (dk_at dksX8_turnFault_1 18 rfl rfl)
theorem dX8_turnFault_43 : decode cX8_turnFault 43 = .ok (.iconst 0, 1) := dk_3 (dk_at dksX8_turnFault_1 21 rfl rfl)
theorem dX8_turnFault_44 : decode cX8_turnFault 44 = .ok (.goto 4, 3) := dk_167 0 4 (dk_at dksX8_turnFault_2 0 rfl rfl)
theorem dX8_turnFault_47 : decode cX8_turnFault 47 = .ok (.iconst 3, 1) := dk_6 (dk_at dksX8_turnFault_2 3 rfl rfl)
theorem dX8_turnFault_48 : decode cX8_turnFault 48 = .ok (.ireturn, 1) := dk_172 (dk_at dksX8_turnFault_2 4 rfl rfl)
abbrev cX8_layTurns : ByteArray := prog_29_method_80_code
def yX8_layTurns : MethodName := ⟨RX8, "layTurns", "(III)V"⟩
def dkwX8_layTurns_12 : List UInt8 := [132, 5, 1, 167, 255, 33, 132, 4, 255, 167, 255, 19, 177]
abbrev dktX8_layTurns_12 : List UInt8 := dkwX8_layTurns_12 ++ []
def dkwX8_layTurns_11 : List UInt8 := [180, 0, 55, 21, 6, 22, 9, 80, 42, 180, 0, 58, 21, 6, 22, 11, 80, 132, 8, 1, 167, 255, 77]
abbrev dktX8_layTurns_11 : List UInt8 := dkwX8_layTurns_11 ++ dktX8_layTurns_12
def dkwX8_layTurns_10 : List UInt8 := [180, 0, 58, 21, 6, 47, 148, 157, 0, 6, 167, 0, 30, 42, 180, 0, 52, 21, 6, 21, 8, 79, 42]
abbrev dktX8_layTurns_10 : List UInt8 := dkwX8_layTurns_10 ++ dktX8_layTurns_11
def dkwX8_layTurns_9 : List UInt8 := [21, 7, 153, 0, 19, 22, 9, 42, 180, 0, 55, 21, 6, 47, 148, 157, 0, 22, 167, 0, 46, 22, 11, 42]
abbrev dktX8_layTurns_9 : List UInt8 := dkwX8_layTurns_9 ++ dktX8_layTurns_10
def dkwX8_layTurns_8 : List UInt8 := [42, 180, 0, 58, 16, 8, 21, 4, 4, 96, 104, 21, 8, 96, 47, 97, 55, 11, 21, 8, 158, 0, 40]
abbrev dktX8_layTurns_8 : List UInt8 := dkwX8_layTurns_8 ++ dktX8_layTurns_9
def dkwX8_layTurns_7 : List UInt8 := [21, 8, 167, 0, 5, 21, 5, 21, 7, 153, 0, 8, 21, 5, 167, 0, 5, 21, 8, 4, 182, 1, 100, 133]
abbrev dktX8_layTurns_7 : List UInt8 := dkwX8_layTurns_7 ++ dktX8_layTurns_8
def dkwX8_layTurns_6 : List UInt8 := [180, 0, 55, 16, 8, 21, 4, 4, 96, 104, 21, 8, 96, 47, 97, 55, 9, 42, 21, 7, 153, 0, 8]
abbrev dktX8_layTurns_6 : List UInt8 := dkwX8_layTurns_6 ++ dktX8_layTurns_7
def dkwX8_layTurns_5 : List UInt8 := [167, 0, 5, 21, 5, 21, 7, 153, 0, 8, 21, 5, 167, 0, 5, 21, 8, 3, 182, 1, 100, 133, 42]
abbrev dktX8_layTurns_5 : List UInt8 := dkwX8_layTurns_5 ++ dktX8_layTurns_6
def dkwX8_layTurns_4 : List UInt8 := [3, 54, 8, 21, 8, 42, 180, 0, 9, 6, 46, 162, 0, 174, 42, 21, 7, 153, 0, 8, 21, 8]
abbrev dktX8_layTurns_4 : List UInt8 := dkwX8_layTurns_4 ++ dktX8_layTurns_5
def dkwX8_layTurns_3 : List UInt8 := [16, 8, 21, 4, 104, 21, 5, 96, 54, 6, 21, 4, 5, 112, 154, 0, 7, 4, 167, 0, 4, 3, 54, 7]
abbrev dktX8_layTurns_3 : List UInt8 := dkwX8_layTurns_3 ++ dktX8_layTurns_4
def dkwX8_layTurns_2 : List UInt8 := [29, 4, 100, 54, 4, 21, 4, 155, 0, 238, 3, 54, 5, 21, 5, 42, 180, 0, 9, 6, 46, 162, 0, 218]
abbrev dktX8_layTurns_2 : List UInt8 := dkwX8_layTurns_2 ++ dktX8_layTurns_3
def dkwX8_layTurns_1 : List UInt8 := [21, 4, 96, 9, 80, 42, 180, 0, 58, 16, 8, 29, 104, 21, 4, 96, 9, 80, 132, 4, 1, 167, 255, 220]
abbrev dktX8_layTurns_1 : List UInt8 := dkwX8_layTurns_1 ++ dktX8_layTurns_2
def dkwX8_layTurns_0 : List UInt8 := [42, 27, 28, 182, 1, 97, 3, 54, 4, 21, 4, 16, 8, 162, 0, 35, 42, 180, 0, 55, 16, 8, 29, 104]
abbrev dktX8_layTurns_0 : List UInt8 := dkwX8_layTurns_0 ++ dktX8_layTurns_1
theorem dksX8_layTurns_0 : cX8_layTurns.data.toList.drop 0 = dktX8_layTurns_0 := by decide +kernel
theorem dksX8_layTurns_1 : cX8_layTurns.data.toList.drop 24 = dktX8_layTurns_1 := dk_seg dksX8_layTurns_0 24 rfl rfl
theorem dksX8_layTurns_2 : cX8_layTurns.data.toList.drop 48 = dktX8_layTurns_2 := dk_seg dksX8_layTurns_1 24 rfl rfl
theorem dksX8_layTurns_3 : cX8_layTurns.data.toList.drop 72 = dktX8_layTurns_3 := dk_seg dksX8_layTurns_2 24 rfl rfl
theorem dksX8_layTurns_4 : cX8_layTurns.data.toList.drop 96 = dktX8_layTurns_4 := dk_seg dksX8_layTurns_3 24 rfl rfl
theorem dksX8_layTurns_5 : cX8_layTurns.data.toList.drop 118 = dktX8_layTurns_5 := dk_seg dksX8_layTurns_4 22 rfl rfl
theorem dksX8_layTurns_6 : cX8_layTurns.data.toList.drop 141 = dktX8_layTurns_6 := dk_seg dksX8_layTurns_5 23 rfl rfl
theorem dksX8_layTurns_7 : cX8_layTurns.data.toList.drop 164 = dktX8_layTurns_7 := dk_seg dksX8_layTurns_6 23 rfl rfl
theorem dksX8_layTurns_8 : cX8_layTurns.data.toList.drop 188 = dktX8_layTurns_8 := dk_seg dksX8_layTurns_7 24 rfl rfl
theorem dksX8_layTurns_9 : cX8_layTurns.data.toList.drop 211 = dktX8_layTurns_9 := dk_seg dksX8_layTurns_8 23 rfl rfl
theorem dksX8_layTurns_10 : cX8_layTurns.data.toList.drop 235 = dktX8_layTurns_10 := dk_seg dksX8_layTurns_9 24 rfl rfl
theorem dksX8_layTurns_11 : cX8_layTurns.data.toList.drop 258 = dktX8_layTurns_11 := dk_seg dksX8_layTurns_10 23 rfl rfl
theorem dksX8_layTurns_12 : cX8_layTurns.data.toList.drop 281 = dktX8_layTurns_12 := dk_seg dksX8_layTurns_11 23 rfl rfl
theorem dX8_layTurns_0 : decode cX8_layTurns 0 = .ok (.aload_n 0, 1) := dk_42 (dk_at dksX8_layTurns_0 0 rfl rfl)
theorem dX8_layTurns_1 : decode cX8_layTurns 1 = .ok (.iload_n 1, 1) := dk_27 (dk_at dksX8_layTurns_0 1 rfl rfl)
theorem dX8_layTurns_2 : decode cX8_layTurns 2 = .ok (.iload_n 2, 1) := dk_28 (dk_at dksX8_layTurns_0 2 rfl rfl)
theorem dX8_layTurns_3 : decode cX8_layTurns 3 = .ok (.invokevirtual 353, 3) := dk_182 1 97 (dk_at dksX8_layTurns_0 3 rfl rfl)
theorem dX8_layTurns_6 : decode cX8_layTurns 6 = .ok (.iconst 0, 1) := dk_3 (dk_at dksX8_layTurns_0 6 rfl rfl)
theorem dX8_layTurns_7 : decode cX8_layTurns 7 = .ok (.istore 4, 2) := dk_54 4 (dk_at dksX8_layTurns_0 7 rfl rfl)
theorem dX8_layTurns_9 : decode cX8_layTurns 9 = .ok (.iload 4, 2) := dk_21 4 (dk_at dksX8_layTurns_0 9 rfl rfl)
theorem dX8_layTurns_11 : decode cX8_layTurns 11 = .ok (.bipush 8, 2) := dk_16 8 (dk_at dksX8_layTurns_0 11 rfl rfl)
theorem dX8_layTurns_13 : decode cX8_layTurns 13 = .ok (.if_icmp .ge 35, 3) := dk_162 0 35 (dk_at dksX8_layTurns_0 13 rfl rfl)
theorem dX8_layTurns_16 : decode cX8_layTurns 16 = .ok (.aload_n 0, 1) := dk_42 (dk_at dksX8_layTurns_0 16 rfl rfl)
theorem dX8_layTurns_17 : decode cX8_layTurns 17 = .ok (.getfield 55, 3) := dk_180 0 55 (dk_at dksX8_layTurns_0 17 rfl rfl)
theorem dX8_layTurns_20 : decode cX8_layTurns 20 = .ok (.bipush 8, 2) := dk_16 8 (dk_at dksX8_layTurns_0 20 rfl rfl)
theorem dX8_layTurns_22 : decode cX8_layTurns 22 = .ok (.iload_n 3, 1) := dk_29 (dk_at dksX8_layTurns_0 22 rfl rfl)
theorem dX8_layTurns_23 : decode cX8_layTurns 23 = .ok (.imul, 1) := dk_104 (dk_at dksX8_layTurns_0 23 rfl rfl)
theorem dX8_layTurns_24 : decode cX8_layTurns 24 = .ok (.iload 4, 2) := dk_21 4 (dk_at dksX8_layTurns_1 0 rfl rfl)
theorem dX8_layTurns_26 : decode cX8_layTurns 26 = .ok (.iadd, 1) := dk_96 (dk_at dksX8_layTurns_1 2 rfl rfl)
theorem dX8_layTurns_27 : decode cX8_layTurns 27 = .ok (.lconst 0, 1) := dk_9 (dk_at dksX8_layTurns_1 3 rfl rfl)
theorem dX8_layTurns_28 : decode cX8_layTurns 28 = .ok (.lastore, 1) := dk_80 (dk_at dksX8_layTurns_1 4 rfl rfl)
theorem dX8_layTurns_29 : decode cX8_layTurns 29 = .ok (.aload_n 0, 1) := dk_42 (dk_at dksX8_layTurns_1 5 rfl rfl)
theorem dX8_layTurns_30 : decode cX8_layTurns 30 = .ok (.getfield 58, 3) := dk_180 0 58 (dk_at dksX8_layTurns_1 6 rfl rfl)
theorem dX8_layTurns_33 : decode cX8_layTurns 33 = .ok (.bipush 8, 2) := dk_16 8 (dk_at dksX8_layTurns_1 9 rfl rfl)
theorem dX8_layTurns_35 : decode cX8_layTurns 35 = .ok (.iload_n 3, 1) := dk_29 (dk_at dksX8_layTurns_1 11 rfl rfl)
theorem dX8_layTurns_36 : decode cX8_layTurns 36 = .ok (.imul, 1) := dk_104 (dk_at dksX8_layTurns_1 12 rfl rfl)
theorem dX8_layTurns_37 : decode cX8_layTurns 37 = .ok (.iload 4, 2) := dk_21 4 (dk_at dksX8_layTurns_1 13 rfl rfl)
theorem dX8_layTurns_39 : decode cX8_layTurns 39 = .ok (.iadd, 1) := dk_96 (dk_at dksX8_layTurns_1 15 rfl rfl)
theorem dX8_layTurns_40 : decode cX8_layTurns 40 = .ok (.lconst 0, 1) := dk_9 (dk_at dksX8_layTurns_1 16 rfl rfl)
theorem dX8_layTurns_41 : decode cX8_layTurns 41 = .ok (.lastore, 1) := dk_80 (dk_at dksX8_layTurns_1 17 rfl rfl)
theorem dX8_layTurns_42 : decode cX8_layTurns 42 = .ok (.iinc 4 1, 3) := dk_132 4 1 (dk_at dksX8_layTurns_1 18 rfl rfl)
theorem dX8_layTurns_45 : decode cX8_layTurns 45 = .ok (.goto (-36), 3) := dk_167 255 220 (dk_at dksX8_layTurns_1 21 rfl rfl)
theorem dX8_layTurns_48 : decode cX8_layTurns 48 = .ok (.iload_n 3, 1) := dk_29 (dk_at dksX8_layTurns_2 0 rfl rfl)
theorem dX8_layTurns_49 : decode cX8_layTurns 49 = .ok (.iconst 1, 1) := dk_4 (dk_at dksX8_layTurns_2 1 rfl rfl)
theorem dX8_layTurns_50 : decode cX8_layTurns 50 = .ok (.isub, 1) := dk_100 (dk_at dksX8_layTurns_2 2 rfl rfl)
theorem dX8_layTurns_51 : decode cX8_layTurns 51 = .ok (.istore 4, 2) := dk_54 4 (dk_at dksX8_layTurns_2 3 rfl rfl)
theorem dX8_layTurns_53 : decode cX8_layTurns 53 = .ok (.iload 4, 2) := dk_21 4 (dk_at dksX8_layTurns_2 5 rfl rfl)
theorem dX8_layTurns_55 : decode cX8_layTurns 55 = .ok (.ifCond .lt 238, 3) := dk_155 0 238 (dk_at dksX8_layTurns_2 7 rfl rfl)
theorem dX8_layTurns_58 : decode cX8_layTurns 58 = .ok (.iconst 0, 1) := dk_3 (dk_at dksX8_layTurns_2 10 rfl rfl)
theorem dX8_layTurns_59 : decode cX8_layTurns 59 = .ok (.istore 5, 2) := dk_54 5 (dk_at dksX8_layTurns_2 11 rfl rfl)
theorem dX8_layTurns_61 : decode cX8_layTurns 61 = .ok (.iload 5, 2) := dk_21 5 (dk_at dksX8_layTurns_2 13 rfl rfl)
theorem dX8_layTurns_63 : decode cX8_layTurns 63 = .ok (.aload_n 0, 1) := dk_42 (dk_at dksX8_layTurns_2 15 rfl rfl)
theorem dX8_layTurns_64 : decode cX8_layTurns 64 = .ok (.getfield 9, 3) := dk_180 0 9 (dk_at dksX8_layTurns_2 16 rfl rfl)
theorem dX8_layTurns_67 : decode cX8_layTurns 67 = .ok (.iconst 3, 1) := dk_6 (dk_at dksX8_layTurns_2 19 rfl rfl)
theorem dX8_layTurns_68 : decode cX8_layTurns 68 = .ok (.iaload, 1) := dk_46 (dk_at dksX8_layTurns_2 20 rfl rfl)
theorem dX8_layTurns_69 : decode cX8_layTurns 69 = .ok (.if_icmp .ge 218, 3) := dk_162 0 218 (dk_at dksX8_layTurns_2 21 rfl rfl)
theorem dX8_layTurns_72 : decode cX8_layTurns 72 = .ok (.bipush 8, 2) := dk_16 8 (dk_at dksX8_layTurns_3 0 rfl rfl)
theorem dX8_layTurns_74 : decode cX8_layTurns 74 = .ok (.iload 4, 2) := dk_21 4 (dk_at dksX8_layTurns_3 2 rfl rfl)
theorem dX8_layTurns_76 : decode cX8_layTurns 76 = .ok (.imul, 1) := dk_104 (dk_at dksX8_layTurns_3 4 rfl rfl)
theorem dX8_layTurns_77 : decode cX8_layTurns 77 = .ok (.iload 5, 2) := dk_21 5 (dk_at dksX8_layTurns_3 5 rfl rfl)
theorem dX8_layTurns_79 : decode cX8_layTurns 79 = .ok (.iadd, 1) := dk_96 (dk_at dksX8_layTurns_3 7 rfl rfl)
theorem dX8_layTurns_80 : decode cX8_layTurns 80 = .ok (.istore 6, 2) := dk_54 6 (dk_at dksX8_layTurns_3 8 rfl rfl)
theorem dX8_layTurns_82 : decode cX8_layTurns 82 = .ok (.iload 4, 2) := dk_21 4 (dk_at dksX8_layTurns_3 10 rfl rfl)
theorem dX8_layTurns_84 : decode cX8_layTurns 84 = .ok (.iconst 2, 1) := dk_5 (dk_at dksX8_layTurns_3 12 rfl rfl)
theorem dX8_layTurns_85 : decode cX8_layTurns 85 = .ok (.irem, 1) := dk_112 (dk_at dksX8_layTurns_3 13 rfl rfl)
theorem dX8_layTurns_86 : decode cX8_layTurns 86 = .ok (.ifCond .ne 7, 3) := dk_154 0 7 (dk_at dksX8_layTurns_3 14 rfl rfl)
theorem dX8_layTurns_89 : decode cX8_layTurns 89 = .ok (.iconst 1, 1) := dk_4 (dk_at dksX8_layTurns_3 17 rfl rfl)
theorem dX8_layTurns_90 : decode cX8_layTurns 90 = .ok (.goto 4, 3) := dk_167 0 4 (dk_at dksX8_layTurns_3 18 rfl rfl)
theorem dX8_layTurns_93 : decode cX8_layTurns 93 = .ok (.iconst 0, 1) := dk_3 (dk_at dksX8_layTurns_3 21 rfl rfl)
theorem dX8_layTurns_94 : decode cX8_layTurns 94 = .ok (.istore 7, 2) := dk_54 7 (dk_at dksX8_layTurns_3 22 rfl rfl)
theorem dX8_layTurns_96 : decode cX8_layTurns 96 = .ok (.iconst 0, 1) := dk_3 (dk_at dksX8_layTurns_4 0 rfl rfl)
theorem dX8_layTurns_97 : decode cX8_layTurns 97 = .ok (.istore 8, 2) := dk_54 8 (dk_at dksX8_layTurns_4 1 rfl rfl)
theorem dX8_layTurns_99 : decode cX8_layTurns 99 = .ok (.iload 8, 2) := dk_21 8 (dk_at dksX8_layTurns_4 3 rfl rfl)
theorem dX8_layTurns_101 : decode cX8_layTurns 101 = .ok (.aload_n 0, 1) := dk_42 (dk_at dksX8_layTurns_4 5 rfl rfl)
theorem dX8_layTurns_102 : decode cX8_layTurns 102 = .ok (.getfield 9, 3) := dk_180 0 9 (dk_at dksX8_layTurns_4 6 rfl rfl)
theorem dX8_layTurns_105 : decode cX8_layTurns 105 = .ok (.iconst 3, 1) := dk_6 (dk_at dksX8_layTurns_4 9 rfl rfl)
theorem dX8_layTurns_106 : decode cX8_layTurns 106 = .ok (.iaload, 1) := dk_46 (dk_at dksX8_layTurns_4 10 rfl rfl)
theorem dX8_layTurns_107 : decode cX8_layTurns 107 = .ok (.if_icmp .ge 174, 3) := dk_162 0 174 (dk_at dksX8_layTurns_4 11 rfl rfl)
theorem dX8_layTurns_110 : decode cX8_layTurns 110 = .ok (.aload_n 0, 1) := dk_42 (dk_at dksX8_layTurns_4 14 rfl rfl)
theorem dX8_layTurns_111 : decode cX8_layTurns 111 = .ok (.iload 7, 2) := dk_21 7 (dk_at dksX8_layTurns_4 15 rfl rfl)
theorem dX8_layTurns_113 : decode cX8_layTurns 113 = .ok (.ifCond .eq 8, 3) := dk_153 0 8 (dk_at dksX8_layTurns_4 17 rfl rfl)
theorem dX8_layTurns_116 : decode cX8_layTurns 116 = .ok (.iload 8, 2) := dk_21 8 (dk_at dksX8_layTurns_4 20 rfl rfl)
theorem dX8_layTurns_118 : decode cX8_layTurns 118 = .ok (.goto 5, 3) := dk_167 0 5 (dk_at dksX8_layTurns_5 0 rfl rfl)
theorem dX8_layTurns_121 : decode cX8_layTurns 121 = .ok (.iload 5, 2) := dk_21 5 (dk_at dksX8_layTurns_5 3 rfl rfl)
theorem dX8_layTurns_123 : decode cX8_layTurns 123 = .ok (.iload 7, 2) := dk_21 7 (dk_at dksX8_layTurns_5 5 rfl rfl)
theorem dX8_layTurns_125 : decode cX8_layTurns 125 = .ok (.ifCond .eq 8, 3) := dk_153 0 8 (dk_at dksX8_layTurns_5 7 rfl rfl)
theorem dX8_layTurns_128 : decode cX8_layTurns 128 = .ok (.iload 5, 2) := dk_21 5 (dk_at dksX8_layTurns_5 10 rfl rfl)
theorem dX8_layTurns_130 : decode cX8_layTurns 130 = .ok (.goto 5, 3) := dk_167 0 5 (dk_at dksX8_layTurns_5 12 rfl rfl)
theorem dX8_layTurns_133 : decode cX8_layTurns 133 = .ok (.iload 8, 2) := dk_21 8 (dk_at dksX8_layTurns_5 15 rfl rfl)
theorem dX8_layTurns_135 : decode cX8_layTurns 135 = .ok (.iconst 0, 1) := dk_3 (dk_at dksX8_layTurns_5 17 rfl rfl)
theorem dX8_layTurns_136 : decode cX8_layTurns 136 = .ok (.invokevirtual 356, 3) := dk_182 1 100 (dk_at dksX8_layTurns_5 18 rfl rfl)
theorem dX8_layTurns_139 : decode cX8_layTurns 139 = .ok (.i2l, 1) := dk_133 (dk_at dksX8_layTurns_5 21 rfl rfl)
theorem dX8_layTurns_140 : decode cX8_layTurns 140 = .ok (.aload_n 0, 1) := dk_42 (dk_at dksX8_layTurns_5 22 rfl rfl)
theorem dX8_layTurns_141 : decode cX8_layTurns 141 = .ok (.getfield 55, 3) := dk_180 0 55 (dk_at dksX8_layTurns_6 0 rfl rfl)
theorem dX8_layTurns_144 : decode cX8_layTurns 144 = .ok (.bipush 8, 2) := dk_16 8 (dk_at dksX8_layTurns_6 3 rfl rfl)
theorem dX8_layTurns_146 : decode cX8_layTurns 146 = .ok (.iload 4, 2) := dk_21 4 (dk_at dksX8_layTurns_6 5 rfl rfl)
theorem dX8_layTurns_148 : decode cX8_layTurns 148 = .ok (.iconst 1, 1) := dk_4 (dk_at dksX8_layTurns_6 7 rfl rfl)
theorem dX8_layTurns_149 : decode cX8_layTurns 149 = .ok (.iadd, 1) := dk_96 (dk_at dksX8_layTurns_6 8 rfl rfl)
theorem dX8_layTurns_150 : decode cX8_layTurns 150 = .ok (.imul, 1) := dk_104 (dk_at dksX8_layTurns_6 9 rfl rfl)
theorem dX8_layTurns_151 : decode cX8_layTurns 151 = .ok (.iload 8, 2) := dk_21 8 (dk_at dksX8_layTurns_6 10 rfl rfl)
theorem dX8_layTurns_153 : decode cX8_layTurns 153 = .ok (.iadd, 1) := dk_96 (dk_at dksX8_layTurns_6 12 rfl rfl)
theorem dX8_layTurns_154 : decode cX8_layTurns 154 = .ok (.laload, 1) := dk_47 (dk_at dksX8_layTurns_6 13 rfl rfl)
theorem dX8_layTurns_155 : decode cX8_layTurns 155 = .ok (.ladd, 1) := dk_97 (dk_at dksX8_layTurns_6 14 rfl rfl)
theorem dX8_layTurns_156 : decode cX8_layTurns 156 = .ok (.lstore 9, 2) := dk_55 9 (dk_at dksX8_layTurns_6 15 rfl rfl)
theorem dX8_layTurns_158 : decode cX8_layTurns 158 = .ok (.aload_n 0, 1) := dk_42 (dk_at dksX8_layTurns_6 17 rfl rfl)
theorem dX8_layTurns_159 : decode cX8_layTurns 159 = .ok (.iload 7, 2) := dk_21 7 (dk_at dksX8_layTurns_6 18 rfl rfl)
theorem dX8_layTurns_161 : decode cX8_layTurns 161 = .ok (.ifCond .eq 8, 3) := dk_153 0 8 (dk_at dksX8_layTurns_6 20 rfl rfl)
theorem dX8_layTurns_164 : decode cX8_layTurns 164 = .ok (.iload 8, 2) := dk_21 8 (dk_at dksX8_layTurns_7 0 rfl rfl)
theorem dX8_layTurns_166 : decode cX8_layTurns 166 = .ok (.goto 5, 3) := dk_167 0 5 (dk_at dksX8_layTurns_7 2 rfl rfl)
theorem dX8_layTurns_169 : decode cX8_layTurns 169 = .ok (.iload 5, 2) := dk_21 5 (dk_at dksX8_layTurns_7 5 rfl rfl)
theorem dX8_layTurns_171 : decode cX8_layTurns 171 = .ok (.iload 7, 2) := dk_21 7 (dk_at dksX8_layTurns_7 7 rfl rfl)
theorem dX8_layTurns_173 : decode cX8_layTurns 173 = .ok (.ifCond .eq 8, 3) := dk_153 0 8 (dk_at dksX8_layTurns_7 9 rfl rfl)
theorem dX8_layTurns_176 : decode cX8_layTurns 176 = .ok (.iload 5, 2) := dk_21 5 (dk_at dksX8_layTurns_7 12 rfl rfl)
theorem dX8_layTurns_178 : decode cX8_layTurns 178 = .ok (.goto 5, 3) := dk_167 0 5 (dk_at dksX8_layTurns_7 14 rfl rfl)
theorem dX8_layTurns_181 : decode cX8_layTurns 181 = .ok (.iload 8, 2) := dk_21 8 (dk_at dksX8_layTurns_7 17 rfl rfl)
theorem dX8_layTurns_183 : decode cX8_layTurns 183 = .ok (.iconst 1, 1) := dk_4 (dk_at dksX8_layTurns_7 19 rfl rfl)
theorem dX8_layTurns_184 : decode cX8_layTurns 184 = .ok (.invokevirtual 356, 3) := dk_182 1 100 (dk_at dksX8_layTurns_7 20 rfl rfl)
theorem dX8_layTurns_187 : decode cX8_layTurns 187 = .ok (.i2l, 1) := dk_133 (dk_at dksX8_layTurns_7 23 rfl rfl)
theorem dX8_layTurns_188 : decode cX8_layTurns 188 = .ok (.aload_n 0, 1) := dk_42 (dk_at dksX8_layTurns_8 0 rfl rfl)
theorem dX8_layTurns_189 : decode cX8_layTurns 189 = .ok (.getfield 58, 3) := dk_180 0 58 (dk_at dksX8_layTurns_8 1 rfl rfl)
theorem dX8_layTurns_192 : decode cX8_layTurns 192 = .ok (.bipush 8, 2) := dk_16 8 (dk_at dksX8_layTurns_8 4 rfl rfl)
theorem dX8_layTurns_194 : decode cX8_layTurns 194 = .ok (.iload 4, 2) := dk_21 4 (dk_at dksX8_layTurns_8 6 rfl rfl)
theorem dX8_layTurns_196 : decode cX8_layTurns 196 = .ok (.iconst 1, 1) := dk_4 (dk_at dksX8_layTurns_8 8 rfl rfl)
theorem dX8_layTurns_197 : decode cX8_layTurns 197 = .ok (.iadd, 1) := dk_96 (dk_at dksX8_layTurns_8 9 rfl rfl)
theorem dX8_layTurns_198 : decode cX8_layTurns 198 = .ok (.imul, 1) := dk_104 (dk_at dksX8_layTurns_8 10 rfl rfl)
theorem dX8_layTurns_199 : decode cX8_layTurns 199 = .ok (.iload 8, 2) := dk_21 8 (dk_at dksX8_layTurns_8 11 rfl rfl)
theorem dX8_layTurns_201 : decode cX8_layTurns 201 = .ok (.iadd, 1) := dk_96 (dk_at dksX8_layTurns_8 13 rfl rfl)
theorem dX8_layTurns_202 : decode cX8_layTurns 202 = .ok (.laload, 1) := dk_47 (dk_at dksX8_layTurns_8 14 rfl rfl)
theorem dX8_layTurns_203 : decode cX8_layTurns 203 = .ok (.ladd, 1) := dk_97 (dk_at dksX8_layTurns_8 15 rfl rfl)
theorem dX8_layTurns_204 : decode cX8_layTurns 204 = .ok (.lstore 11, 2) := dk_55 11 (dk_at dksX8_layTurns_8 16 rfl rfl)
theorem dX8_layTurns_206 : decode cX8_layTurns 206 = .ok (.iload 8, 2) := dk_21 8 (dk_at dksX8_layTurns_8 18 rfl rfl)
theorem dX8_layTurns_208 : decode cX8_layTurns 208 = .ok (.ifCond .le 40, 3) := dk_158 0 40 (dk_at dksX8_layTurns_8 20 rfl rfl)
theorem dX8_layTurns_211 : decode cX8_layTurns 211 = .ok (.iload 7, 2) := dk_21 7 (dk_at dksX8_layTurns_9 0 rfl rfl)
theorem dX8_layTurns_213 : decode cX8_layTurns 213 = .ok (.ifCond .eq 19, 3) := dk_153 0 19 (dk_at dksX8_layTurns_9 2 rfl rfl)
theorem dX8_layTurns_216 : decode cX8_layTurns 216 = .ok (.lload 9, 2) := dk_22 9 (dk_at dksX8_layTurns_9 5 rfl rfl)
theorem dX8_layTurns_218 : decode cX8_layTurns 218 = .ok (.aload_n 0, 1) := dk_42 (dk_at dksX8_layTurns_9 7 rfl rfl)
theorem dX8_layTurns_219 : decode cX8_layTurns 219 = .ok (.getfield 55, 3) := dk_180 0 55 (dk_at dksX8_layTurns_9 8 rfl rfl)
theorem dX8_layTurns_222 : decode cX8_layTurns 222 = .ok (.iload 6, 2) := dk_21 6 (dk_at dksX8_layTurns_9 11 rfl rfl)
theorem dX8_layTurns_224 : decode cX8_layTurns 224 = .ok (.laload, 1) := dk_47 (dk_at dksX8_layTurns_9 13 rfl rfl)
theorem dX8_layTurns_225 : decode cX8_layTurns 225 = .ok (.lcmp, 1) := dk_148 (dk_at dksX8_layTurns_9 14 rfl rfl)
theorem dX8_layTurns_226 : decode cX8_layTurns 226 = .ok (.ifCond .gt 22, 3) := dk_157 0 22 (dk_at dksX8_layTurns_9 15 rfl rfl)
theorem dX8_layTurns_229 : decode cX8_layTurns 229 = .ok (.goto 46, 3) := dk_167 0 46 (dk_at dksX8_layTurns_9 18 rfl rfl)
theorem dX8_layTurns_232 : decode cX8_layTurns 232 = .ok (.lload 11, 2) := dk_22 11 (dk_at dksX8_layTurns_9 21 rfl rfl)
theorem dX8_layTurns_234 : decode cX8_layTurns 234 = .ok (.aload_n 0, 1) := dk_42 (dk_at dksX8_layTurns_9 23 rfl rfl)
theorem dX8_layTurns_235 : decode cX8_layTurns 235 = .ok (.getfield 58, 3) := dk_180 0 58 (dk_at dksX8_layTurns_10 0 rfl rfl)
theorem dX8_layTurns_238 : decode cX8_layTurns 238 = .ok (.iload 6, 2) := dk_21 6 (dk_at dksX8_layTurns_10 3 rfl rfl)
theorem dX8_layTurns_240 : decode cX8_layTurns 240 = .ok (.laload, 1) := dk_47 (dk_at dksX8_layTurns_10 5 rfl rfl)
theorem dX8_layTurns_241 : decode cX8_layTurns 241 = .ok (.lcmp, 1) := dk_148 (dk_at dksX8_layTurns_10 6 rfl rfl)
theorem dX8_layTurns_242 : decode cX8_layTurns 242 = .ok (.ifCond .gt 6, 3) := dk_157 0 6 (dk_at dksX8_layTurns_10 7 rfl rfl)
theorem dX8_layTurns_245 : decode cX8_layTurns 245 = .ok (.goto 30, 3) := dk_167 0 30 (dk_at dksX8_layTurns_10 10 rfl rfl)
theorem dX8_layTurns_248 : decode cX8_layTurns 248 = .ok (.aload_n 0, 1) := dk_42 (dk_at dksX8_layTurns_10 13 rfl rfl)
theorem dX8_layTurns_249 : decode cX8_layTurns 249 = .ok (.getfield 52, 3) := dk_180 0 52 (dk_at dksX8_layTurns_10 14 rfl rfl)
theorem dX8_layTurns_252 : decode cX8_layTurns 252 = .ok (.iload 6, 2) := dk_21 6 (dk_at dksX8_layTurns_10 17 rfl rfl)
theorem dX8_layTurns_254 : decode cX8_layTurns 254 = .ok (.iload 8, 2) := dk_21 8 (dk_at dksX8_layTurns_10 19 rfl rfl)
theorem dX8_layTurns_256 : decode cX8_layTurns 256 = .ok (.iastore, 1) := dk_79 (dk_at dksX8_layTurns_10 21 rfl rfl)
theorem dX8_layTurns_257 : decode cX8_layTurns 257 = .ok (.aload_n 0, 1) := dk_42 (dk_at dksX8_layTurns_10 22 rfl rfl)
theorem dX8_layTurns_258 : decode cX8_layTurns 258 = .ok (.getfield 55, 3) := dk_180 0 55 (dk_at dksX8_layTurns_11 0 rfl rfl)
theorem dX8_layTurns_261 : decode cX8_layTurns 261 = .ok (.iload 6, 2) := dk_21 6 (dk_at dksX8_layTurns_11 3 rfl rfl)
theorem dX8_layTurns_263 : decode cX8_layTurns 263 = .ok (.lload 9, 2) := dk_22 9 (dk_at dksX8_layTurns_11 5 rfl rfl)
theorem dX8_layTurns_265 : decode cX8_layTurns 265 = .ok (.lastore, 1) := dk_80 (dk_at dksX8_layTurns_11 7 rfl rfl)
theorem dX8_layTurns_266 : decode cX8_layTurns 266 = .ok (.aload_n 0, 1) := dk_42 (dk_at dksX8_layTurns_11 8 rfl rfl)
theorem dX8_layTurns_267 : decode cX8_layTurns 267 = .ok (.getfield 58, 3) := dk_180 0 58 (dk_at dksX8_layTurns_11 9 rfl rfl)
theorem dX8_layTurns_270 : decode cX8_layTurns 270 = .ok (.iload 6, 2) := dk_21 6 (dk_at dksX8_layTurns_11 12 rfl rfl)
theorem dX8_layTurns_272 : decode cX8_layTurns 272 = .ok (.lload 11, 2) := dk_22 11 (dk_at dksX8_layTurns_11 14 rfl rfl)
theorem dX8_layTurns_274 : decode cX8_layTurns 274 = .ok (.lastore, 1) := dk_80 (dk_at dksX8_layTurns_11 16 rfl rfl)
theorem dX8_layTurns_275 : decode cX8_layTurns 275 = .ok (.iinc 8 1, 3) := dk_132 8 1 (dk_at dksX8_layTurns_11 17 rfl rfl)
theorem dX8_layTurns_278 : decode cX8_layTurns 278 = .ok (.goto (-179), 3) := dk_167 255 77 (dk_at dksX8_layTurns_11 20 rfl rfl)
theorem dX8_layTurns_281 : decode cX8_layTurns 281 = .ok (.iinc 5 1, 3) := dk_132 5 1 (dk_at dksX8_layTurns_12 0 rfl rfl)
theorem dX8_layTurns_284 : decode cX8_layTurns 284 = .ok (.goto (-223), 3) := dk_167 255 33 (dk_at dksX8_layTurns_12 3 rfl rfl)
theorem dX8_layTurns_287 : decode cX8_layTurns 287 = .ok (.iinc 4 (-1), 3) := dk_132 4 255 (dk_at dksX8_layTurns_12 6 rfl rfl)
theorem dX8_layTurns_290 : decode cX8_layTurns 290 = .ok (.goto (-237), 3) := dk_167 255 19 (dk_at dksX8_layTurns_12 9 rfl rfl)
theorem dX8_layTurns_293 : decode cX8_layTurns 293 = .ok (.return_, 1) := dk_177 (dk_at dksX8_layTurns_12 12 rfl rfl)
abbrev cX8_gains : ByteArray := prog_29_method_82_code
def yX8_gains : MethodName := ⟨RX8, "gains", "(IIIIZ)J"⟩
def dkwX8_gains_2 : List UInt8 := [29, 47, 173]
abbrev dktX8_gains_2 : List UInt8 := dkwX8_gains_2 ++ []
def dkwX8_gains_1 : List UInt8 := [28, 21, 4, 182, 1, 118, 21, 5, 153, 0, 12, 42, 180, 0, 58, 29, 47, 167, 0, 9, 42, 180, 0, 55]
abbrev dktX8_gains_1 : List UInt8 := dkwX8_gains_1 ++ dktX8_gains_2
def dkwX8_gains_0 : List UInt8 := [42, 42, 27, 28, 29, 21, 4, 182, 1, 114, 181, 0, 76, 42, 180, 0, 76, 158, 0, 5, 9, 173, 42, 27]
abbrev dktX8_gains_0 : List UInt8 := dkwX8_gains_0 ++ dktX8_gains_1
theorem dksX8_gains_0 : cX8_gains.data.toList.drop 0 = dktX8_gains_0 := by decide +kernel
theorem dksX8_gains_1 : cX8_gains.data.toList.drop 24 = dktX8_gains_1 := dk_seg dksX8_gains_0 24 rfl rfl
theorem dksX8_gains_2 : cX8_gains.data.toList.drop 48 = dktX8_gains_2 := dk_seg dksX8_gains_1 24 rfl rfl
theorem dX8_gains_0 : decode cX8_gains 0 = .ok (.aload_n 0, 1) := dk_42 (dk_at dksX8_gains_0 0 rfl rfl)
theorem dX8_gains_1 : decode cX8_gains 1 = .ok (.aload_n 0, 1) := dk_42 (dk_at dksX8_gains_0 1 rfl rfl)
theorem dX8_gains_2 : decode cX8_gains 2 = .ok (.iload_n 1, 1) := dk_27 (dk_at dksX8_gains_0 2 rfl rfl)
theorem dX8_gains_3 : decode cX8_gains 3 = .ok (.iload_n 2, 1) := dk_28 (dk_at dksX8_gains_0 3 rfl rfl)
theorem dX8_gains_4 : decode cX8_gains 4 = .ok (.iload_n 3, 1) := dk_29 (dk_at dksX8_gains_0 4 rfl rfl)
theorem dX8_gains_5 : decode cX8_gains 5 = .ok (.iload 4, 2) := dk_21 4 (dk_at dksX8_gains_0 5 rfl rfl)
theorem dX8_gains_7 : decode cX8_gains 7 = .ok (.invokevirtual 370, 3) := dk_182 1 114 (dk_at dksX8_gains_0 7 rfl rfl)
theorem dX8_gains_10 : decode cX8_gains 10 = .ok (.putfield 76, 3) := dk_181 0 76 (dk_at dksX8_gains_0 10 rfl rfl)
theorem dX8_gains_13 : decode cX8_gains 13 = .ok (.aload_n 0, 1) := dk_42 (dk_at dksX8_gains_0 13 rfl rfl)
theorem dX8_gains_14 : decode cX8_gains 14 = .ok (.getfield 76, 3) := dk_180 0 76 (dk_at dksX8_gains_0 14 rfl rfl)
theorem dX8_gains_17 : decode cX8_gains 17 = .ok (.ifCond .le 5, 3) := dk_158 0 5 (dk_at dksX8_gains_0 17 rfl rfl)
theorem dX8_gains_20 : decode cX8_gains 20 = .ok (.lconst 0, 1) := dk_9 (dk_at dksX8_gains_0 20 rfl rfl)
theorem dX8_gains_21 : decode cX8_gains 21 = .ok (.lreturn, 1) := dk_173 (dk_at dksX8_gains_0 21 rfl rfl)
theorem dX8_gains_22 : decode cX8_gains 22 = .ok (.aload_n 0, 1) := dk_42 (dk_at dksX8_gains_0 22 rfl rfl)
theorem dX8_gains_23 : decode cX8_gains 23 = .ok (.iload_n 1, 1) := dk_27 (dk_at dksX8_gains_0 23 rfl rfl)
theorem dX8_gains_24 : decode cX8_gains 24 = .ok (.iload_n 2, 1) := dk_28 (dk_at dksX8_gains_1 0 rfl rfl)
theorem dX8_gains_25 : decode cX8_gains 25 = .ok (.iload 4, 2) := dk_21 4 (dk_at dksX8_gains_1 1 rfl rfl)
theorem dX8_gains_27 : decode cX8_gains 27 = .ok (.invokevirtual 374, 3) := dk_182 1 118 (dk_at dksX8_gains_1 3 rfl rfl)
theorem dX8_gains_30 : decode cX8_gains 30 = .ok (.iload 5, 2) := dk_21 5 (dk_at dksX8_gains_1 6 rfl rfl)
theorem dX8_gains_32 : decode cX8_gains 32 = .ok (.ifCond .eq 12, 3) := dk_153 0 12 (dk_at dksX8_gains_1 8 rfl rfl)
theorem dX8_gains_35 : decode cX8_gains 35 = .ok (.aload_n 0, 1) := dk_42 (dk_at dksX8_gains_1 11 rfl rfl)
theorem dX8_gains_36 : decode cX8_gains 36 = .ok (.getfield 58, 3) := dk_180 0 58 (dk_at dksX8_gains_1 12 rfl rfl)
theorem dX8_gains_39 : decode cX8_gains 39 = .ok (.iload_n 3, 1) := dk_29 (dk_at dksX8_gains_1 15 rfl rfl)
theorem dX8_gains_40 : decode cX8_gains 40 = .ok (.laload, 1) := dk_47 (dk_at dksX8_gains_1 16 rfl rfl)
theorem dX8_gains_41 : decode cX8_gains 41 = .ok (.goto 9, 3) := dk_167 0 9 (dk_at dksX8_gains_1 17 rfl rfl)
theorem dX8_gains_44 : decode cX8_gains 44 = .ok (.aload_n 0, 1) := dk_42 (dk_at dksX8_gains_1 20 rfl rfl)
theorem dX8_gains_45 : decode cX8_gains 45 = .ok (.getfield 55, 3) := dk_180 0 55 (dk_at dksX8_gains_1 21 rfl rfl)
theorem dX8_gains_48 : decode cX8_gains 48 = .ok (.iload_n 3, 1) := dk_29 (dk_at dksX8_gains_2 0 rfl rfl)
theorem dX8_gains_49 : decode cX8_gains 49 = .ok (.laload, 1) := dk_47 (dk_at dksX8_gains_2 1 rfl rfl)
theorem dX8_gains_50 : decode cX8_gains 50 = .ok (.lreturn, 1) := dk_173 (dk_at dksX8_gains_2 2 rfl rfl)
abbrev cX8_learn : ByteArray := prog_29_method_89_code
def yX8_learn : MethodName := ⟨RX8, "learn", "(IIII)I"⟩
def dkwX8_learn_2 : List UInt8 := [16, 10, 42, 180, 1, 132, 104, 42, 180, 1, 135, 96, 172]
abbrev dktX8_learn_2 : List UInt8 := dkwX8_learn_2 ++ []
def dkwX8_learn_1 : List UInt8 := [180, 0, 9, 6, 46, 154, 0, 5, 2, 172, 42, 27, 28, 182, 1, 97, 42, 29, 21, 4, 182, 1, 148]
abbrev dktX8_learn_1 : List UInt8 := dkwX8_learn_1 ++ dktX8_learn_2
def dkwX8_learn_0 : List UInt8 := [42, 42, 27, 28, 29, 17, 7, 208, 182, 1, 145, 181, 0, 76, 42, 180, 0, 76, 158, 0, 5, 3, 172, 42]
abbrev dktX8_learn_0 : List UInt8 := dkwX8_learn_0 ++ dktX8_learn_1
theorem dksX8_learn_0 : cX8_learn.data.toList.drop 0 = dktX8_learn_0 := by decide +kernel
theorem dksX8_learn_1 : cX8_learn.data.toList.drop 24 = dktX8_learn_1 := dk_seg dksX8_learn_0 24 rfl rfl
theorem dksX8_learn_2 : cX8_learn.data.toList.drop 47 = dktX8_learn_2 := dk_seg dksX8_learn_1 23 rfl rfl
theorem dX8_learn_0 : decode cX8_learn 0 = .ok (.aload_n 0, 1) := dk_42 (dk_at dksX8_learn_0 0 rfl rfl)
theorem dX8_learn_1 : decode cX8_learn 1 = .ok (.aload_n 0, 1) := dk_42 (dk_at dksX8_learn_0 1 rfl rfl)
theorem dX8_learn_2 : decode cX8_learn 2 = .ok (.iload_n 1, 1) := dk_27 (dk_at dksX8_learn_0 2 rfl rfl)
theorem dX8_learn_3 : decode cX8_learn 3 = .ok (.iload_n 2, 1) := dk_28 (dk_at dksX8_learn_0 3 rfl rfl)
theorem dX8_learn_4 : decode cX8_learn 4 = .ok (.iload_n 3, 1) := dk_29 (dk_at dksX8_learn_0 4 rfl rfl)
theorem dX8_learn_5 : decode cX8_learn 5 = .ok (.sipush 2000, 3) := dk_17 7 208 (dk_at dksX8_learn_0 5 rfl rfl)
theorem dX8_learn_8 : decode cX8_learn 8 = .ok (.invokevirtual 401, 3) := dk_182 1 145 (dk_at dksX8_learn_0 8 rfl rfl)
theorem dX8_learn_11 : decode cX8_learn 11 = .ok (.putfield 76, 3) := dk_181 0 76 (dk_at dksX8_learn_0 11 rfl rfl)
theorem dX8_learn_14 : decode cX8_learn 14 = .ok (.aload_n 0, 1) := dk_42 (dk_at dksX8_learn_0 14 rfl rfl)
theorem dX8_learn_15 : decode cX8_learn 15 = .ok (.getfield 76, 3) := dk_180 0 76 (dk_at dksX8_learn_0 15 rfl rfl)
theorem dX8_learn_18 : decode cX8_learn 18 = .ok (.ifCond .le 5, 3) := dk_158 0 5 (dk_at dksX8_learn_0 18 rfl rfl)
theorem dX8_learn_21 : decode cX8_learn 21 = .ok (.iconst 0, 1) := dk_3 (dk_at dksX8_learn_0 21 rfl rfl)
theorem dX8_learn_22 : decode cX8_learn 22 = .ok (.ireturn, 1) := dk_172 (dk_at dksX8_learn_0 22 rfl rfl)
theorem dX8_learn_23 : decode cX8_learn 23 = .ok (.aload_n 0, 1) := dk_42 (dk_at dksX8_learn_0 23 rfl rfl)
theorem dX8_learn_24 : decode cX8_learn 24 = .ok (.getfield 9, 3) := dk_180 0 9 (dk_at dksX8_learn_1 0 rfl rfl)
theorem dX8_learn_27 : decode cX8_learn 27 = .ok (.iconst 3, 1) := dk_6 (dk_at dksX8_learn_1 3 rfl rfl)
theorem dX8_learn_28 : decode cX8_learn 28 = .ok (.iaload, 1) := dk_46 (dk_at dksX8_learn_1 4 rfl rfl)
theorem dX8_learn_29 : decode cX8_learn 29 = .ok (.ifCond .ne 5, 3) := dk_154 0 5 (dk_at dksX8_learn_1 5 rfl rfl)
theorem dX8_learn_32 : decode cX8_learn 32 = .ok (.iconst (-1), 1) := dk_2 (dk_at dksX8_learn_1 8 rfl rfl)
theorem dX8_learn_33 : decode cX8_learn 33 = .ok (.ireturn, 1) := dk_172 (dk_at dksX8_learn_1 9 rfl rfl)
theorem dX8_learn_34 : decode cX8_learn 34 = .ok (.aload_n 0, 1) := dk_42 (dk_at dksX8_learn_1 10 rfl rfl)
theorem dX8_learn_35 : decode cX8_learn 35 = .ok (.iload_n 1, 1) := dk_27 (dk_at dksX8_learn_1 11 rfl rfl)
theorem dX8_learn_36 : decode cX8_learn 36 = .ok (.iload_n 2, 1) := dk_28 (dk_at dksX8_learn_1 12 rfl rfl)
theorem dX8_learn_37 : decode cX8_learn 37 = .ok (.invokevirtual 353, 3) := dk_182 1 97 (dk_at dksX8_learn_1 13 rfl rfl)
theorem dX8_learn_40 : decode cX8_learn 40 = .ok (.aload_n 0, 1) := dk_42 (dk_at dksX8_learn_1 16 rfl rfl)
theorem dX8_learn_41 : decode cX8_learn 41 = .ok (.iload_n 3, 1) := dk_29 (dk_at dksX8_learn_1 17 rfl rfl)
theorem dX8_learn_42 : decode cX8_learn 42 = .ok (.iload 4, 2) := dk_21 4 (dk_at dksX8_learn_1 18 rfl rfl)
theorem dX8_learn_44 : decode cX8_learn 44 = .ok (.invokevirtual 404, 3) := dk_182 1 148 (dk_at dksX8_learn_1 20 rfl rfl)
theorem dX8_learn_47 : decode cX8_learn 47 = .ok (.bipush 10, 2) := dk_16 10 (dk_at dksX8_learn_2 0 rfl rfl)
theorem dX8_learn_49 : decode cX8_learn 49 = .ok (.aload_n 0, 1) := dk_42 (dk_at dksX8_learn_2 2 rfl rfl)
theorem dX8_learn_50 : decode cX8_learn 50 = .ok (.getfield 388, 3) := dk_180 1 132 (dk_at dksX8_learn_2 3 rfl rfl)
theorem dX8_learn_53 : decode cX8_learn 53 = .ok (.imul, 1) := dk_104 (dk_at dksX8_learn_2 6 rfl rfl)
theorem dX8_learn_54 : decode cX8_learn 54 = .ok (.aload_n 0, 1) := dk_42 (dk_at dksX8_learn_2 7 rfl rfl)
theorem dX8_learn_55 : decode cX8_learn 55 = .ok (.getfield 391, 3) := dk_180 1 135 (dk_at dksX8_learn_2 8 rfl rfl)
theorem dX8_learn_58 : decode cX8_learn 58 = .ok (.iadd, 1) := dk_96 (dk_at dksX8_learn_2 11 rfl rfl)
theorem dX8_learn_59 : decode cX8_learn 59 = .ok (.ireturn, 1) := dk_172 (dk_at dksX8_learn_2 12 rfl rfl)
abbrev cX8_learnFault : ByteArray := prog_29_method_88_code
def yX8_learnFault : MethodName := ⟨RX8, "learnFault", "(IIII)I"⟩
def dkwX8_learnFault_1 : List UInt8 := [184, 0, 79, 153, 0, 7, 3, 167, 0, 4, 5, 172]
abbrev dktX8_learnFault_1 : List UInt8 := dkwX8_learnFault_1 ++ []
def dkwX8_learnFault_0 : List UInt8 := [42, 27, 28, 182, 1, 91, 158, 0, 12, 42, 27, 28, 182, 1, 91, 167, 0, 20, 29, 133, 10, 21, 4, 133]
abbrev dktX8_learnFault_0 : List UInt8 := dkwX8_learnFault_0 ++ dktX8_learnFault_1
theorem dksX8_learnFault_0 : cX8_learnFault.data.toList.drop 0 = dktX8_learnFault_0 := by decide +kernel
theorem dksX8_learnFault_1 : cX8_learnFault.data.toList.drop 24 = dktX8_learnFault_1 := dk_seg dksX8_learnFault_0 24 rfl rfl
theorem dX8_learnFault_0 : decode cX8_learnFault 0 = .ok (.aload_n 0, 1) := dk_42 (dk_at dksX8_learnFault_0 0 rfl rfl)
theorem dX8_learnFault_1 : decode cX8_learnFault 1 = .ok (.iload_n 1, 1) := dk_27 (dk_at dksX8_learnFault_0 1 rfl rfl)
theorem dX8_learnFault_2 : decode cX8_learnFault 2 = .ok (.iload_n 2, 1) := dk_28 (dk_at dksX8_learnFault_0 2 rfl rfl)
theorem dX8_learnFault_3 : decode cX8_learnFault 3 = .ok (.invokevirtual 347, 3) := dk_182 1 91 (dk_at dksX8_learnFault_0 3 rfl rfl)
theorem dX8_learnFault_6 : decode cX8_learnFault 6 = .ok (.ifCond .le 12, 3) := dk_158 0 12 (dk_at dksX8_learnFault_0 6 rfl rfl)
theorem dX8_learnFault_9 : decode cX8_learnFault 9 = .ok (.aload_n 0, 1) := dk_42 (dk_at dksX8_learnFault_0 9 rfl rfl)
theorem dX8_learnFault_10 : decode cX8_learnFault 10 = .ok (.iload_n 1, 1) := dk_27 (dk_at dksX8_learnFault_0 10 rfl rfl)
theorem dX8_learnFault_11 : decode cX8_learnFault 11 = .ok (.iload_n 2, 1) := dk_28 (dk_at dksX8_learnFault_0 11 rfl rfl)
theorem dX8_learnFault_12 : decode cX8_learnFault 12 = .ok (.invokevirtual 347, 3) := dk_182 1 91 (dk_at dksX8_learnFault_0 12 rfl rfl)
theorem dX8_learnFault_15 : decode cX8_learnFault 15 = .ok (.goto 20, 3) := dk_167 0 20 (dk_at dksX8_learnFault_0 15 rfl rfl)
theorem dX8_learnFault_18 : decode cX8_learnFault 18 = .ok (.iload_n 3, 1) := dk_29 (dk_at dksX8_learnFault_0 18 rfl rfl)
theorem dX8_learnFault_19 : decode cX8_learnFault 19 = .ok (.i2l, 1) := dk_133 (dk_at dksX8_learnFault_0 19 rfl rfl)
theorem dX8_learnFault_20 : decode cX8_learnFault 20 = .ok (.lconst 1, 1) := dk_10 (dk_at dksX8_learnFault_0 20 rfl rfl)
theorem dX8_learnFault_21 : decode cX8_learnFault 21 = .ok (.iload 4, 2) := dk_21 4 (dk_at dksX8_learnFault_0 21 rfl rfl)
theorem dX8_learnFault_23 : decode cX8_learnFault 23 = .ok (.i2l, 1) := dk_133 (dk_at dksX8_learnFault_0 23 rfl rfl)
theorem dX8_learnFault_24 : decode cX8_learnFault 24 = .ok (.invokestatic 79, 3) := dk_184 0 79 (dk_at dksX8_learnFault_1 0 rfl rfl)
theorem dX8_learnFault_27 : decode cX8_learnFault 27 = .ok (.ifCond .eq 7, 3) := dk_153 0 7 (dk_at dksX8_learnFault_1 3 rfl rfl)
theorem dX8_learnFault_30 : decode cX8_learnFault 30 = .ok (.iconst 0, 1) := dk_3 (dk_at dksX8_learnFault_1 6 rfl rfl)
theorem dX8_learnFault_31 : decode cX8_learnFault 31 = .ok (.goto 4, 3) := dk_167 0 4 (dk_at dksX8_learnFault_1 7 rfl rfl)
theorem dX8_learnFault_34 : decode cX8_learnFault 34 = .ok (.iconst 2, 1) := dk_5 (dk_at dksX8_learnFault_1 10 rfl rfl)
theorem dX8_learnFault_35 : decode cX8_learnFault 35 = .ok (.ireturn, 1) := dk_172 (dk_at dksX8_learnFault_1 11 rfl rfl)
abbrev cX8_learns : ByteArray := prog_29_method_87_code
def yX8_learns : MethodName := ⟨RX8, "learns", "(II)V"⟩
def dkwX8_learns_8 : List UInt8 := [181, 1, 132, 42, 21, 5, 181, 1, 135, 132, 3, 1, 167, 255, 213, 177]
abbrev dktX8_learns_8 : List UInt8 := dkwX8_learns_8 ++ []
def dkwX8_learns_7 : List UInt8 := [3, 42, 180, 1, 135, 182, 1, 129, 54, 4, 42, 4, 42, 180, 1, 132, 182, 1, 129, 54, 5, 42, 21, 4]
abbrev dktX8_learns_7 : List UInt8 := dkwX8_learns_7 ++ dktX8_learns_8
def dkwX8_learns_6 : List UInt8 := [181, 1, 132, 42, 21, 6, 181, 1, 135, 132, 3, 1, 167, 255, 155, 3, 62, 29, 16, 10, 162, 0, 43, 42]
abbrev dktX8_learns_6 : List UInt8 := dkwX8_learns_6 ++ dktX8_learns_7
def dkwX8_learns_5 : List UInt8 := [180, 1, 132, 21, 6, 42, 21, 5, 21, 6, 4, 182, 1, 100, 21, 5, 182, 1, 141, 42, 21, 5]
abbrev dktX8_learns_5 : List UInt8 := dkwX8_learns_5 ++ dktX8_learns_6
def dkwX8_learns_4 : List UInt8 := [3, 42, 180, 1, 135, 21, 5, 42, 21, 5, 21, 6, 3, 182, 1, 100, 21, 6, 182, 1, 141, 42, 4, 42]
abbrev dktX8_learns_4 : List UInt8 := dkwX8_learns_4 ++ dktX8_learns_5
def dkwX8_learns_3 : List UInt8 := [180, 1, 135, 21, 4, 182, 1, 138, 54, 5, 42, 4, 42, 180, 1, 132, 21, 4, 182, 1, 138, 54, 6, 42]
abbrev dktX8_learns_3 : List UInt8 := dkwX8_learns_3 ++ dktX8_learns_4
def dkwX8_learns_2 : List UInt8 := [181, 1, 135, 3, 62, 29, 27, 162, 0, 102, 16, 50, 16, 50, 29, 104, 27, 108, 100, 54, 4, 42, 3, 42]
abbrev dktX8_learns_2 : List UInt8 := dkwX8_learns_2 ++ dktX8_learns_3
def dkwX8_learns_1 : List UInt8 := [132, 3, 1, 167, 255, 237, 42, 42, 180, 0, 9, 6, 46, 4, 100, 181, 1, 132, 42, 42, 180, 1, 132]
abbrev dktX8_learns_1 : List UInt8 := dkwX8_learns_1 ++ dktX8_learns_2
def dkwX8_learns_0 : List UInt8 := [42, 28, 181, 1, 123, 3, 62, 29, 42, 180, 0, 61, 190, 162, 0, 16, 42, 180, 0, 61, 29, 3, 79]
abbrev dktX8_learns_0 : List UInt8 := dkwX8_learns_0 ++ dktX8_learns_1
theorem dksX8_learns_0 : cX8_learns.data.toList.drop 0 = dktX8_learns_0 := by decide +kernel
theorem dksX8_learns_1 : cX8_learns.data.toList.drop 23 = dktX8_learns_1 := dk_seg dksX8_learns_0 23 rfl rfl
theorem dksX8_learns_2 : cX8_learns.data.toList.drop 46 = dktX8_learns_2 := dk_seg dksX8_learns_1 23 rfl rfl
theorem dksX8_learns_3 : cX8_learns.data.toList.drop 70 = dktX8_learns_3 := dk_seg dksX8_learns_2 24 rfl rfl
theorem dksX8_learns_4 : cX8_learns.data.toList.drop 94 = dktX8_learns_4 := dk_seg dksX8_learns_3 24 rfl rfl
theorem dksX8_learns_5 : cX8_learns.data.toList.drop 118 = dktX8_learns_5 := dk_seg dksX8_learns_4 24 rfl rfl
theorem dksX8_learns_6 : cX8_learns.data.toList.drop 140 = dktX8_learns_6 := dk_seg dksX8_learns_5 22 rfl rfl
theorem dksX8_learns_7 : cX8_learns.data.toList.drop 164 = dktX8_learns_7 := dk_seg dksX8_learns_6 24 rfl rfl
theorem dksX8_learns_8 : cX8_learns.data.toList.drop 188 = dktX8_learns_8 := dk_seg dksX8_learns_7 24 rfl rfl
theorem dX8_learns_0 : decode cX8_learns 0 = .ok (.aload_n 0, 1) := dk_42 (dk_at dksX8_learns_0 0 rfl rfl)
theorem dX8_learns_1 : decode cX8_learns 1 = .ok (.iload_n 2, 1) := dk_28 (dk_at dksX8_learns_0 1 rfl rfl)
theorem dX8_learns_2 : decode cX8_learns 2 = .ok (.putfield 379, 3) := dk_181 1 123 (dk_at dksX8_learns_0 2 rfl rfl)
theorem dX8_learns_5 : decode cX8_learns 5 = .ok (.iconst 0, 1) := dk_3 (dk_at dksX8_learns_0 5 rfl rfl)
theorem dX8_learns_6 : decode cX8_learns 6 = .ok (.istore_n 3, 1) := dk_62 (dk_at dksX8_learns_0 6 rfl rfl)
theorem dX8_learns_7 : decode cX8_learns 7 = .ok (.iload_n 3, 1) := dk_29 (dk_at dksX8_learns_0 7 rfl rfl)
theorem dX8_learns_8 : decode cX8_learns 8 = .ok (.aload_n 0, 1) := dk_42 (dk_at dksX8_learns_0 8 rfl rfl)
theorem dX8_learns_9 : decode cX8_learns 9 = .ok (.getfield 61, 3) := dk_180 0 61 (dk_at dksX8_learns_0 9 rfl rfl)
theorem dX8_learns_12 : decode cX8_learns 12 = .ok (.arraylength, 1) := dk_190 (dk_at dksX8_learns_0 12 rfl rfl)
theorem dX8_learns_13 : decode cX8_learns 13 = .ok (.if_icmp .ge 16, 3) := dk_162 0 16 (dk_at dksX8_learns_0 13 rfl rfl)
theorem dX8_learns_16 : decode cX8_learns 16 = .ok (.aload_n 0, 1) := dk_42 (dk_at dksX8_learns_0 16 rfl rfl)
theorem dX8_learns_17 : decode cX8_learns 17 = .ok (.getfield 61, 3) := dk_180 0 61 (dk_at dksX8_learns_0 17 rfl rfl)
theorem dX8_learns_20 : decode cX8_learns 20 = .ok (.iload_n 3, 1) := dk_29 (dk_at dksX8_learns_0 20 rfl rfl)
theorem dX8_learns_21 : decode cX8_learns 21 = .ok (.iconst 0, 1) := dk_3 (dk_at dksX8_learns_0 21 rfl rfl)
theorem dX8_learns_22 : decode cX8_learns 22 = .ok (.iastore, 1) := dk_79 (dk_at dksX8_learns_0 22 rfl rfl)
theorem dX8_learns_23 : decode cX8_learns 23 = .ok (.iinc 3 1, 3) := dk_132 3 1 (dk_at dksX8_learns_1 0 rfl rfl)
theorem dX8_learns_26 : decode cX8_learns 26 = .ok (.goto (-19), 3) := dk_167 255 237 (dk_at dksX8_learns_1 3 rfl rfl)
theorem dX8_learns_29 : decode cX8_learns 29 = .ok (.aload_n 0, 1) := dk_42 (dk_at dksX8_learns_1 6 rfl rfl)
theorem dX8_learns_30 : decode cX8_learns 30 = .ok (.aload_n 0, 1) := dk_42 (dk_at dksX8_learns_1 7 rfl rfl)
theorem dX8_learns_31 : decode cX8_learns 31 = .ok (.getfield 9, 3) := dk_180 0 9 (dk_at dksX8_learns_1 8 rfl rfl)
theorem dX8_learns_34 : decode cX8_learns 34 = .ok (.iconst 3, 1) := dk_6 (dk_at dksX8_learns_1 11 rfl rfl)
theorem dX8_learns_35 : decode cX8_learns 35 = .ok (.iaload, 1) := dk_46 (dk_at dksX8_learns_1 12 rfl rfl)
theorem dX8_learns_36 : decode cX8_learns 36 = .ok (.iconst 1, 1) := dk_4 (dk_at dksX8_learns_1 13 rfl rfl)
theorem dX8_learns_37 : decode cX8_learns 37 = .ok (.isub, 1) := dk_100 (dk_at dksX8_learns_1 14 rfl rfl)
theorem dX8_learns_38 : decode cX8_learns 38 = .ok (.putfield 388, 3) := dk_181 1 132 (dk_at dksX8_learns_1 15 rfl rfl)
theorem dX8_learns_41 : decode cX8_learns 41 = .ok (.aload_n 0, 1) := dk_42 (dk_at dksX8_learns_1 18 rfl rfl)
theorem dX8_learns_42 : decode cX8_learns 42 = .ok (.aload_n 0, 1) := dk_42 (dk_at dksX8_learns_1 19 rfl rfl)
theorem dX8_learns_43 : decode cX8_learns 43 = .ok (.getfield 388, 3) := dk_180 1 132 (dk_at dksX8_learns_1 20 rfl rfl)
theorem dX8_learns_46 : decode cX8_learns 46 = .ok (.putfield 391, 3) := dk_181 1 135 (dk_at dksX8_learns_2 0 rfl rfl)
theorem dX8_learns_49 : decode cX8_learns 49 = .ok (.iconst 0, 1) := dk_3 (dk_at dksX8_learns_2 3 rfl rfl)
theorem dX8_learns_50 : decode cX8_learns 50 = .ok (.istore_n 3, 1) := dk_62 (dk_at dksX8_learns_2 4 rfl rfl)
theorem dX8_learns_51 : decode cX8_learns 51 = .ok (.iload_n 3, 1) := dk_29 (dk_at dksX8_learns_2 5 rfl rfl)
theorem dX8_learns_52 : decode cX8_learns 52 = .ok (.iload_n 1, 1) := dk_27 (dk_at dksX8_learns_2 6 rfl rfl)
theorem dX8_learns_53 : decode cX8_learns 53 = .ok (.if_icmp .ge 102, 3) := dk_162 0 102 (dk_at dksX8_learns_2 7 rfl rfl)
theorem dX8_learns_56 : decode cX8_learns 56 = .ok (.bipush 50, 2) := dk_16 50 (dk_at dksX8_learns_2 10 rfl rfl)
theorem dX8_learns_58 : decode cX8_learns 58 = .ok (.bipush 50, 2) := dk_16 50 (dk_at dksX8_learns_2 12 rfl rfl)
theorem dX8_learns_60 : decode cX8_learns 60 = .ok (.iload_n 3, 1) := dk_29 (dk_at dksX8_learns_2 14 rfl rfl)
theorem dX8_learns_61 : decode cX8_learns 61 = .ok (.imul, 1) := dk_104 (dk_at dksX8_learns_2 15 rfl rfl)
theorem dX8_learns_62 : decode cX8_learns 62 = .ok (.iload_n 1, 1) := dk_27 (dk_at dksX8_learns_2 16 rfl rfl)
theorem dX8_learns_63 : decode cX8_learns 63 = .ok (.idiv, 1) := dk_108 (dk_at dksX8_learns_2 17 rfl rfl)
theorem dX8_learns_64 : decode cX8_learns 64 = .ok (.isub, 1) := dk_100 (dk_at dksX8_learns_2 18 rfl rfl)
theorem dX8_learns_65 : decode cX8_learns 65 = .ok (.istore 4, 2) := dk_54 4 (dk_at dksX8_learns_2 19 rfl rfl)
theorem dX8_learns_67 : decode cX8_learns 67 = .ok (.aload_n 0, 1) := dk_42 (dk_at dksX8_learns_2 21 rfl rfl)
theorem dX8_learns_68 : decode cX8_learns 68 = .ok (.iconst 0, 1) := dk_3 (dk_at dksX8_learns_2 22 rfl rfl)
theorem dX8_learns_69 : decode cX8_learns 69 = .ok (.aload_n 0, 1) := dk_42 (dk_at dksX8_learns_2 23 rfl rfl)
theorem dX8_learns_70 : decode cX8_learns 70 = .ok (.getfield 391, 3) := dk_180 1 135 (dk_at dksX8_learns_3 0 rfl rfl)
theorem dX8_learns_73 : decode cX8_learns 73 = .ok (.iload 4, 2) := dk_21 4 (dk_at dksX8_learns_3 3 rfl rfl)
theorem dX8_learns_75 : decode cX8_learns 75 = .ok (.invokevirtual 394, 3) := dk_182 1 138 (dk_at dksX8_learns_3 5 rfl rfl)
theorem dX8_learns_78 : decode cX8_learns 78 = .ok (.istore 5, 2) := dk_54 5 (dk_at dksX8_learns_3 8 rfl rfl)
theorem dX8_learns_80 : decode cX8_learns 80 = .ok (.aload_n 0, 1) := dk_42 (dk_at dksX8_learns_3 10 rfl rfl)
theorem dX8_learns_81 : decode cX8_learns 81 = .ok (.iconst 1, 1) := dk_4 (dk_at dksX8_learns_3 11 rfl rfl)
theorem dX8_learns_82 : decode cX8_learns 82 = .ok (.aload_n 0, 1) := dk_42 (dk_at dksX8_learns_3 12 rfl rfl)
theorem dX8_learns_83 : decode cX8_learns 83 = .ok (.getfield 388, 3) := dk_180 1 132 (dk_at dksX8_learns_3 13 rfl rfl)
theorem dX8_learns_86 : decode cX8_learns 86 = .ok (.iload 4, 2) := dk_21 4 (dk_at dksX8_learns_3 16 rfl rfl)
theorem dX8_learns_88 : decode cX8_learns 88 = .ok (.invokevirtual 394, 3) := dk_182 1 138 (dk_at dksX8_learns_3 18 rfl rfl)
theorem dX8_learns_91 : decode cX8_learns 91 = .ok (.istore 6, 2) := dk_54 6 (dk_at dksX8_learns_3 21 rfl rfl)
theorem dX8_learns_93 : decode cX8_learns 93 = .ok (.aload_n 0, 1) := dk_42 (dk_at dksX8_learns_3 23 rfl rfl)
theorem dX8_learns_94 : decode cX8_learns 94 = .ok (.iconst 0, 1) := dk_3 (dk_at dksX8_learns_4 0 rfl rfl)
theorem dX8_learns_95 : decode cX8_learns 95 = .ok (.aload_n 0, 1) := dk_42 (dk_at dksX8_learns_4 1 rfl rfl)
theorem dX8_learns_96 : decode cX8_learns 96 = .ok (.getfield 391, 3) := dk_180 1 135 (dk_at dksX8_learns_4 2 rfl rfl)
theorem dX8_learns_99 : decode cX8_learns 99 = .ok (.iload 5, 2) := dk_21 5 (dk_at dksX8_learns_4 5 rfl rfl)
theorem dX8_learns_101 : decode cX8_learns 101 = .ok (.aload_n 0, 1) := dk_42 (dk_at dksX8_learns_4 7 rfl rfl)
theorem dX8_learns_102 : decode cX8_learns 102 = .ok (.iload 5, 2) := dk_21 5 (dk_at dksX8_learns_4 8 rfl rfl)
theorem dX8_learns_104 : decode cX8_learns 104 = .ok (.iload 6, 2) := dk_21 6 (dk_at dksX8_learns_4 10 rfl rfl)
theorem dX8_learns_106 : decode cX8_learns 106 = .ok (.iconst 0, 1) := dk_3 (dk_at dksX8_learns_4 12 rfl rfl)
theorem dX8_learns_107 : decode cX8_learns 107 = .ok (.invokevirtual 356, 3) := dk_182 1 100 (dk_at dksX8_learns_4 13 rfl rfl)
theorem dX8_learns_110 : decode cX8_learns 110 = .ok (.iload 6, 2) := dk_21 6 (dk_at dksX8_learns_4 16 rfl rfl)
theorem dX8_learns_112 : decode cX8_learns 112 = .ok (.invokevirtual 397, 3) := dk_182 1 141 (dk_at dksX8_learns_4 18 rfl rfl)
theorem dX8_learns_115 : decode cX8_learns 115 = .ok (.aload_n 0, 1) := dk_42 (dk_at dksX8_learns_4 21 rfl rfl)
theorem dX8_learns_116 : decode cX8_learns 116 = .ok (.iconst 1, 1) := dk_4 (dk_at dksX8_learns_4 22 rfl rfl)
theorem dX8_learns_117 : decode cX8_learns 117 = .ok (.aload_n 0, 1) := dk_42 (dk_at dksX8_learns_4 23 rfl rfl)
theorem dX8_learns_118 : decode cX8_learns 118 = .ok (.getfield 388, 3) := dk_180 1 132 (dk_at dksX8_learns_5 0 rfl rfl)
theorem dX8_learns_121 : decode cX8_learns 121 = .ok (.iload 6, 2) := dk_21 6 (dk_at dksX8_learns_5 3 rfl rfl)
theorem dX8_learns_123 : decode cX8_learns 123 = .ok (.aload_n 0, 1) := dk_42 (dk_at dksX8_learns_5 5 rfl rfl)
theorem dX8_learns_124 : decode cX8_learns 124 = .ok (.iload 5, 2) := dk_21 5 (dk_at dksX8_learns_5 6 rfl rfl)
theorem dX8_learns_126 : decode cX8_learns 126 = .ok (.iload 6, 2) := dk_21 6 (dk_at dksX8_learns_5 8 rfl rfl)
theorem dX8_learns_128 : decode cX8_learns 128 = .ok (.iconst 1, 1) := dk_4 (dk_at dksX8_learns_5 10 rfl rfl)
theorem dX8_learns_129 : decode cX8_learns 129 = .ok (.invokevirtual 356, 3) := dk_182 1 100 (dk_at dksX8_learns_5 11 rfl rfl)
theorem dX8_learns_132 : decode cX8_learns 132 = .ok (.iload 5, 2) := dk_21 5 (dk_at dksX8_learns_5 14 rfl rfl)
theorem dX8_learns_134 : decode cX8_learns 134 = .ok (.invokevirtual 397, 3) := dk_182 1 141 (dk_at dksX8_learns_5 16 rfl rfl)
theorem dX8_learns_137 : decode cX8_learns 137 = .ok (.aload_n 0, 1) := dk_42 (dk_at dksX8_learns_5 19 rfl rfl)
theorem dX8_learns_138 : decode cX8_learns 138 = .ok (.iload 5, 2) := dk_21 5 (dk_at dksX8_learns_5 20 rfl rfl)
theorem dX8_learns_140 : decode cX8_learns 140 = .ok (.putfield 388, 3) := dk_181 1 132 (dk_at dksX8_learns_6 0 rfl rfl)
theorem dX8_learns_143 : decode cX8_learns 143 = .ok (.aload_n 0, 1) := dk_42 (dk_at dksX8_learns_6 3 rfl rfl)
theorem dX8_learns_144 : decode cX8_learns 144 = .ok (.iload 6, 2) := dk_21 6 (dk_at dksX8_learns_6 4 rfl rfl)
theorem dX8_learns_146 : decode cX8_learns 146 = .ok (.putfield 391, 3) := dk_181 1 135 (dk_at dksX8_learns_6 6 rfl rfl)
theorem dX8_learns_149 : decode cX8_learns 149 = .ok (.iinc 3 1, 3) := dk_132 3 1 (dk_at dksX8_learns_6 9 rfl rfl)
theorem dX8_learns_152 : decode cX8_learns 152 = .ok (.goto (-101), 3) := dk_167 255 155 (dk_at dksX8_learns_6 12 rfl rfl)
theorem dX8_learns_155 : decode cX8_learns 155 = .ok (.iconst 0, 1) := dk_3 (dk_at dksX8_learns_6 15 rfl rfl)
theorem dX8_learns_156 : decode cX8_learns 156 = .ok (.istore_n 3, 1) := dk_62 (dk_at dksX8_learns_6 16 rfl rfl)
theorem dX8_learns_157 : decode cX8_learns 157 = .ok (.iload_n 3, 1) := dk_29 (dk_at dksX8_learns_6 17 rfl rfl)
theorem dX8_learns_158 : decode cX8_learns 158 = .ok (.bipush 10, 2) := dk_16 10 (dk_at dksX8_learns_6 18 rfl rfl)
theorem dX8_learns_160 : decode cX8_learns 160 = .ok (.if_icmp .ge 43, 3) := dk_162 0 43 (dk_at dksX8_learns_6 20 rfl rfl)
theorem dX8_learns_163 : decode cX8_learns 163 = .ok (.aload_n 0, 1) := dk_42 (dk_at dksX8_learns_6 23 rfl rfl)
theorem dX8_learns_164 : decode cX8_learns 164 = .ok (.iconst 0, 1) := dk_3 (dk_at dksX8_learns_7 0 rfl rfl)
theorem dX8_learns_165 : decode cX8_learns 165 = .ok (.aload_n 0, 1) := dk_42 (dk_at dksX8_learns_7 1 rfl rfl)
theorem dX8_learns_166 : decode cX8_learns 166 = .ok (.getfield 391, 3) := dk_180 1 135 (dk_at dksX8_learns_7 2 rfl rfl)
theorem dX8_learns_169 : decode cX8_learns 169 = .ok (.invokevirtual 385, 3) := dk_182 1 129 (dk_at dksX8_learns_7 5 rfl rfl)
theorem dX8_learns_172 : decode cX8_learns 172 = .ok (.istore 4, 2) := dk_54 4 (dk_at dksX8_learns_7 8 rfl rfl)
theorem dX8_learns_174 : decode cX8_learns 174 = .ok (.aload_n 0, 1) := dk_42 (dk_at dksX8_learns_7 10 rfl rfl)
theorem dX8_learns_175 : decode cX8_learns 175 = .ok (.iconst 1, 1) := dk_4 (dk_at dksX8_learns_7 11 rfl rfl)
theorem dX8_learns_176 : decode cX8_learns 176 = .ok (.aload_n 0, 1) := dk_42 (dk_at dksX8_learns_7 12 rfl rfl)
theorem dX8_learns_177 : decode cX8_learns 177 = .ok (.getfield 388, 3) := dk_180 1 132 (dk_at dksX8_learns_7 13 rfl rfl)
theorem dX8_learns_180 : decode cX8_learns 180 = .ok (.invokevirtual 385, 3) := dk_182 1 129 (dk_at dksX8_learns_7 16 rfl rfl)
theorem dX8_learns_183 : decode cX8_learns 183 = .ok (.istore 5, 2) := dk_54 5 (dk_at dksX8_learns_7 19 rfl rfl)
theorem dX8_learns_185 : decode cX8_learns 185 = .ok (.aload_n 0, 1) := dk_42 (dk_at dksX8_learns_7 21 rfl rfl)
theorem dX8_learns_186 : decode cX8_learns 186 = .ok (.iload 4, 2) := dk_21 4 (dk_at dksX8_learns_7 22 rfl rfl)
theorem dX8_learns_188 : decode cX8_learns 188 = .ok (.putfield 388, 3) := dk_181 1 132 (dk_at dksX8_learns_8 0 rfl rfl)
theorem dX8_learns_191 : decode cX8_learns 191 = .ok (.aload_n 0, 1) := dk_42 (dk_at dksX8_learns_8 3 rfl rfl)
theorem dX8_learns_192 : decode cX8_learns 192 = .ok (.iload 5, 2) := dk_21 5 (dk_at dksX8_learns_8 4 rfl rfl)
theorem dX8_learns_194 : decode cX8_learns 194 = .ok (.putfield 391, 3) := dk_181 1 135 (dk_at dksX8_learns_8 6 rfl rfl)
theorem dX8_learns_197 : decode cX8_learns 197 = .ok (.iinc 3 1, 3) := dk_132 3 1 (dk_at dksX8_learns_8 9 rfl rfl)
theorem dX8_learns_200 : decode cX8_learns 200 = .ok (.goto (-43), 3) := dk_167 255 213 (dk_at dksX8_learns_8 12 rfl rfl)
theorem dX8_learns_203 : decode cX8_learns 203 = .ok (.return_, 1) := dk_177 (dk_at dksX8_learns_8 15 rfl rfl)
abbrev cX8_takes : ByteArray := prog_29_method_85_code
def yX8_takes : MethodName := ⟨RX8, "takes", "(III)I"⟩
def dkwX8_takes_1 : List UInt8 := [167, 0, 9, 42, 27, 28, 182, 1, 129, 172]
abbrev dktX8_takes_1 : List UInt8 := dkwX8_takes_1 ++ []
def dkwX8_takes_0 : List UInt8 := [42, 182, 1, 126, 16, 100, 112, 29, 162, 0, 17, 42, 182, 1, 126, 42, 180, 0, 9, 6, 46, 112]
abbrev dktX8_takes_0 : List UInt8 := dkwX8_takes_0 ++ dktX8_takes_1
theorem dksX8_takes_0 : cX8_takes.data.toList.drop 0 = dktX8_takes_0 := by decide +kernel
theorem dksX8_takes_1 : cX8_takes.data.toList.drop 22 = dktX8_takes_1 := dk_seg dksX8_takes_0 22 rfl rfl
theorem dX8_takes_0 : decode cX8_takes 0 = .ok (.aload_n 0, 1) := dk_42 (dk_at dksX8_takes_0 0 rfl rfl)
theorem dX8_takes_1 : decode cX8_takes 1 = .ok (.invokevirtual 382, 3) := dk_182 1 126 (dk_at dksX8_takes_0 1 rfl rfl)
theorem dX8_takes_4 : decode cX8_takes 4 = .ok (.bipush 100, 2) := dk_16 100 (dk_at dksX8_takes_0 4 rfl rfl)
theorem dX8_takes_6 : decode cX8_takes 6 = .ok (.irem, 1) := dk_112 (dk_at dksX8_takes_0 6 rfl rfl)
theorem dX8_takes_7 : decode cX8_takes 7 = .ok (.iload_n 3, 1) := dk_29 (dk_at dksX8_takes_0 7 rfl rfl)
theorem dX8_takes_8 : decode cX8_takes 8 = .ok (.if_icmp .ge 17, 3) := dk_162 0 17 (dk_at dksX8_takes_0 8 rfl rfl)
theorem dX8_takes_11 : decode cX8_takes 11 = .ok (.aload_n 0, 1) := dk_42 (dk_at dksX8_takes_0 11 rfl rfl)
theorem dX8_takes_12 : decode cX8_takes 12 = .ok (.invokevirtual 382, 3) := dk_182 1 126 (dk_at dksX8_takes_0 12 rfl rfl)
theorem dX8_takes_15 : decode cX8_takes 15 = .ok (.aload_n 0, 1) := dk_42 (dk_at dksX8_takes_0 15 rfl rfl)
theorem dX8_takes_16 : decode cX8_takes 16 = .ok (.getfield 9, 3) := dk_180 0 9 (dk_at dksX8_takes_0 16 rfl rfl)
theorem dX8_takes_19 : decode cX8_takes 19 = .ok (.iconst 3, 1) := dk_6 (dk_at dksX8_takes_0 19 rfl rfl)
theorem dX8_takes_20 : decode cX8_takes 20 = .ok (.iaload, 1) := dk_46 (dk_at dksX8_takes_0 20 rfl rfl)
theorem dX8_takes_21 : decode cX8_takes 21 = .ok (.irem, 1) := dk_112 (dk_at dksX8_takes_0 21 rfl rfl)
theorem dX8_takes_22 : decode cX8_takes 22 = .ok (.goto 9, 3) := dk_167 0 9 (dk_at dksX8_takes_1 0 rfl rfl)
theorem dX8_takes_25 : decode cX8_takes 25 = .ok (.aload_n 0, 1) := dk_42 (dk_at dksX8_takes_1 3 rfl rfl)
theorem dX8_takes_26 : decode cX8_takes 26 = .ok (.iload_n 1, 1) := dk_27 (dk_at dksX8_takes_1 4 rfl rfl)
theorem dX8_takes_27 : decode cX8_takes 27 = .ok (.iload_n 2, 1) := dk_28 (dk_at dksX8_takes_1 5 rfl rfl)
theorem dX8_takes_28 : decode cX8_takes 28 = .ok (.invokevirtual 385, 3) := dk_182 1 129 (dk_at dksX8_takes_1 6 rfl rfl)
theorem dX8_takes_31 : decode cX8_takes 31 = .ok (.ireturn, 1) := dk_172 (dk_at dksX8_takes_1 9 rfl rfl)
abbrev cX8_draw : ByteArray := prog_29_method_83_code
def yX8_draw : MethodName := ⟨RX8, "draw", "()I"⟩
def dkwX8_draw_0 : List UInt8 := [42, 19, 1, 122, 42, 180, 1, 123, 104, 17, 48, 57, 96, 181, 1, 123, 42, 180, 1, 123, 16, 16, 124, 172]
abbrev dktX8_draw_0 : List UInt8 := dkwX8_draw_0 ++ []
theorem dksX8_draw_0 : cX8_draw.data.toList.drop 0 = dktX8_draw_0 := by decide +kernel
theorem dX8_draw_0 : decode cX8_draw 0 = .ok (.aload_n 0, 1) := dk_42 (dk_at dksX8_draw_0 0 rfl rfl)
theorem dX8_draw_1 : decode cX8_draw 1 = .ok (.ldc_w 378, 3) := dk_19 1 122 (dk_at dksX8_draw_0 1 rfl rfl)
theorem dX8_draw_4 : decode cX8_draw 4 = .ok (.aload_n 0, 1) := dk_42 (dk_at dksX8_draw_0 4 rfl rfl)
theorem dX8_draw_5 : decode cX8_draw 5 = .ok (.getfield 379, 3) := dk_180 1 123 (dk_at dksX8_draw_0 5 rfl rfl)
theorem dX8_draw_8 : decode cX8_draw 8 = .ok (.imul, 1) := dk_104 (dk_at dksX8_draw_0 8 rfl rfl)
theorem dX8_draw_9 : decode cX8_draw 9 = .ok (.sipush 12345, 3) := dk_17 48 57 (dk_at dksX8_draw_0 9 rfl rfl)
theorem dX8_draw_12 : decode cX8_draw 12 = .ok (.iadd, 1) := dk_96 (dk_at dksX8_draw_0 12 rfl rfl)
theorem dX8_draw_13 : decode cX8_draw 13 = .ok (.putfield 379, 3) := dk_181 1 123 (dk_at dksX8_draw_0 13 rfl rfl)
theorem dX8_draw_16 : decode cX8_draw 16 = .ok (.aload_n 0, 1) := dk_42 (dk_at dksX8_draw_0 16 rfl rfl)
theorem dX8_draw_17 : decode cX8_draw 17 = .ok (.getfield 379, 3) := dk_180 1 123 (dk_at dksX8_draw_0 17 rfl rfl)
theorem dX8_draw_20 : decode cX8_draw 20 = .ok (.bipush 16, 2) := dk_16 16 (dk_at dksX8_draw_0 20 rfl rfl)
theorem dX8_draw_22 : decode cX8_draw 22 = .ok (.iushr, 1) := dk_124 (dk_at dksX8_draw_0 22 rfl rfl)
theorem dX8_draw_23 : decode cX8_draw 23 = .ok (.ireturn, 1) := dk_172 (dk_at dksX8_draw_0 23 rfl rfl)
abbrev cX8_greatest : ByteArray := prog_29_method_84_code
def yX8_greatest : MethodName := ⟨RX8, "greatest", "(II)I"⟩
def dkwX8_greatest_2 : List UInt8 := [46, 164, 0, 6, 21, 4, 62, 132, 4, 1, 167, 255, 203, 29, 172]
abbrev dktX8_greatest_2 : List UInt8 := dkwX8_greatest_2 ++ []
def dkwX8_greatest_1 : List UInt8 := [16, 8, 28, 104, 96, 21, 4, 96, 46, 42, 180, 0, 61, 16, 64, 27, 104, 16, 8, 28, 104, 96, 29, 96]
abbrev dktX8_greatest_1 : List UInt8 := dkwX8_greatest_1 ++ dktX8_greatest_2
def dkwX8_greatest_0 : List UInt8 := [3, 62, 4, 54, 4, 21, 4, 42, 180, 0, 9, 6, 46, 162, 0, 48, 42, 180, 0, 61, 16, 64, 27, 104]
abbrev dktX8_greatest_0 : List UInt8 := dkwX8_greatest_0 ++ dktX8_greatest_1
theorem dksX8_greatest_0 : cX8_greatest.data.toList.drop 0 = dktX8_greatest_0 := by decide +kernel
theorem dksX8_greatest_1 : cX8_greatest.data.toList.drop 24 = dktX8_greatest_1 := dk_seg dksX8_greatest_0 24 rfl rfl
theorem dksX8_greatest_2 : cX8_greatest.data.toList.drop 48 = dktX8_greatest_2 := dk_seg dksX8_greatest_1 24 rfl rfl
theorem dX8_greatest_0 : decode cX8_greatest 0 = .ok (.iconst 0, 1) := dk_3 (dk_at dksX8_greatest_0 0 rfl rfl)
theorem dX8_greatest_1 : decode cX8_greatest 1 = .ok (.istore_n 3, 1) := dk_62 (dk_at dksX8_greatest_0 1 rfl rfl)
theorem dX8_greatest_2 : decode cX8_greatest 2 = .ok (.iconst 1, 1) := dk_4 (dk_at dksX8_greatest_0 2 rfl rfl)
theorem dX8_greatest_3 : decode cX8_greatest 3 = .ok (.istore 4, 2) := dk_54 4 (dk_at dksX8_greatest_0 3 rfl rfl)
theorem dX8_greatest_5 : decode cX8_greatest 5 = .ok (.iload 4, 2) := dk_21 4 (dk_at dksX8_greatest_0 5 rfl rfl)
theorem dX8_greatest_7 : decode cX8_greatest 7 = .ok (.aload_n 0, 1) := dk_42 (dk_at dksX8_greatest_0 7 rfl rfl)
theorem dX8_greatest_8 : decode cX8_greatest 8 = .ok (.getfield 9, 3) := dk_180 0 9 (dk_at dksX8_greatest_0 8 rfl rfl)
theorem dX8_greatest_11 : decode cX8_greatest 11 = .ok (.iconst 3, 1) := dk_6 (dk_at dksX8_greatest_0 11 rfl rfl)
theorem dX8_greatest_12 : decode cX8_greatest 12 = .ok (.iaload, 1) := dk_46 (dk_at dksX8_greatest_0 12 rfl rfl)
theorem dX8_greatest_13 : decode cX8_greatest 13 = .ok (.if_icmp .ge 48, 3) := dk_162 0 48 (dk_at dksX8_greatest_0 13 rfl rfl)
theorem dX8_greatest_16 : decode cX8_greatest 16 = .ok (.aload_n 0, 1) := dk_42 (dk_at dksX8_greatest_0 16 rfl rfl)
theorem dX8_greatest_17 : decode cX8_greatest 17 = .ok (.getfield 61, 3) := dk_180 0 61 (dk_at dksX8_greatest_0 17 rfl rfl)
theorem dX8_greatest_20 : decode cX8_greatest 20 = .ok (.bipush 64, 2) := dk_16 64 (dk_at dksX8_greatest_0 20 rfl rfl)
theorem dX8_greatest_22 : decode cX8_greatest 22 = .ok (.iload_n 1, 1) := dk_27 (dk_at dksX8_greatest_0 22 rfl rfl)
theorem dX8_greatest_23 : decode cX8_greatest 23 = .ok (.imul, 1) := dk_104 (dk_at dksX8_greatest_0 23 rfl rfl)
theorem dX8_greatest_24 : decode cX8_greatest 24 = .ok (.bipush 8, 2) := dk_16 8 (dk_at dksX8_greatest_1 0 rfl rfl)
theorem dX8_greatest_26 : decode cX8_greatest 26 = .ok (.iload_n 2, 1) := dk_28 (dk_at dksX8_greatest_1 2 rfl rfl)
theorem dX8_greatest_27 : decode cX8_greatest 27 = .ok (.imul, 1) := dk_104 (dk_at dksX8_greatest_1 3 rfl rfl)
theorem dX8_greatest_28 : decode cX8_greatest 28 = .ok (.iadd, 1) := dk_96 (dk_at dksX8_greatest_1 4 rfl rfl)
theorem dX8_greatest_29 : decode cX8_greatest 29 = .ok (.iload 4, 2) := dk_21 4 (dk_at dksX8_greatest_1 5 rfl rfl)
theorem dX8_greatest_31 : decode cX8_greatest 31 = .ok (.iadd, 1) := dk_96 (dk_at dksX8_greatest_1 7 rfl rfl)
theorem dX8_greatest_32 : decode cX8_greatest 32 = .ok (.iaload, 1) := dk_46 (dk_at dksX8_greatest_1 8 rfl rfl)
theorem dX8_greatest_33 : decode cX8_greatest 33 = .ok (.aload_n 0, 1) := dk_42 (dk_at dksX8_greatest_1 9 rfl rfl)
theorem dX8_greatest_34 : decode cX8_greatest 34 = .ok (.getfield 61, 3) := dk_180 0 61 (dk_at dksX8_greatest_1 10 rfl rfl)
theorem dX8_greatest_37 : decode cX8_greatest 37 = .ok (.bipush 64, 2) := dk_16 64 (dk_at dksX8_greatest_1 13 rfl rfl)
theorem dX8_greatest_39 : decode cX8_greatest 39 = .ok (.iload_n 1, 1) := dk_27 (dk_at dksX8_greatest_1 15 rfl rfl)
theorem dX8_greatest_40 : decode cX8_greatest 40 = .ok (.imul, 1) := dk_104 (dk_at dksX8_greatest_1 16 rfl rfl)
theorem dX8_greatest_41 : decode cX8_greatest 41 = .ok (.bipush 8, 2) := dk_16 8 (dk_at dksX8_greatest_1 17 rfl rfl)
theorem dX8_greatest_43 : decode cX8_greatest 43 = .ok (.iload_n 2, 1) := dk_28 (dk_at dksX8_greatest_1 19 rfl rfl)
theorem dX8_greatest_44 : decode cX8_greatest 44 = .ok (.imul, 1) := dk_104 (dk_at dksX8_greatest_1 20 rfl rfl)
theorem dX8_greatest_45 : decode cX8_greatest 45 = .ok (.iadd, 1) := dk_96 (dk_at dksX8_greatest_1 21 rfl rfl)
theorem dX8_greatest_46 : decode cX8_greatest 46 = .ok (.iload_n 3, 1) := dk_29 (dk_at dksX8_greatest_1 22 rfl rfl)
theorem dX8_greatest_47 : decode cX8_greatest 47 = .ok (.iadd, 1) := dk_96 (dk_at dksX8_greatest_1 23 rfl rfl)
theorem dX8_greatest_48 : decode cX8_greatest 48 = .ok (.iaload, 1) := dk_46 (dk_at dksX8_greatest_2 0 rfl rfl)
theorem dX8_greatest_49 : decode cX8_greatest 49 = .ok (.if_icmp .le 6, 3) := dk_164 0 6 (dk_at dksX8_greatest_2 1 rfl rfl)
theorem dX8_greatest_52 : decode cX8_greatest 52 = .ok (.iload 4, 2) := dk_21 4 (dk_at dksX8_greatest_2 4 rfl rfl)
theorem dX8_greatest_54 : decode cX8_greatest 54 = .ok (.istore_n 3, 1) := dk_62 (dk_at dksX8_greatest_2 6 rfl rfl)
theorem dX8_greatest_55 : decode cX8_greatest 55 = .ok (.iinc 4 1, 3) := dk_132 4 1 (dk_at dksX8_greatest_2 7 rfl rfl)
theorem dX8_greatest_58 : decode cX8_greatest 58 = .ok (.goto (-53), 3) := dk_167 255 203 (dk_at dksX8_greatest_2 10 rfl rfl)
theorem dX8_greatest_61 : decode cX8_greatest 61 = .ok (.iload_n 3, 1) := dk_29 (dk_at dksX8_greatest_2 13 rfl rfl)
theorem dX8_greatest_62 : decode cX8_greatest 62 = .ok (.ireturn, 1) := dk_172 (dk_at dksX8_greatest_2 14 rfl rfl)
abbrev cX8_teaches : ByteArray := prog_29_method_86_code
def yX8_teaches : MethodName := ⟨RX8, "teaches", "(IIIII)V"⟩
def dkwX8_teaches_3 : List UInt8 := [108, 96, 79, 177]
abbrev dktX8_teaches_3 : List UInt8 := dkwX8_teaches_3 ++ []
def dkwX8_teaches_2 : List UInt8 := [16, 8, 21, 4, 104, 16, 7, 21, 7, 104, 16, 8, 108, 96, 42, 180, 0, 61, 21, 6, 46, 100, 16, 8]
abbrev dktX8_teaches_2 : List UInt8 := dkwX8_teaches_2 ++ dktX8_teaches_3
def dkwX8_teaches_1 : List UInt8 := [21, 5, 104, 96, 42, 27, 21, 5, 182, 1, 129, 96, 46, 54, 7, 42, 180, 0, 61, 21, 6, 92, 46]
abbrev dktX8_teaches_1 : List UInt8 := dkwX8_teaches_1 ++ dktX8_teaches_2
def dkwX8_teaches_0 : List UInt8 := [16, 64, 27, 104, 16, 8, 28, 104, 96, 29, 96, 54, 6, 42, 180, 0, 61, 16, 64, 27, 104, 16, 8]
abbrev dktX8_teaches_0 : List UInt8 := dkwX8_teaches_0 ++ dktX8_teaches_1
theorem dksX8_teaches_0 : cX8_teaches.data.toList.drop 0 = dktX8_teaches_0 := by decide +kernel
theorem dksX8_teaches_1 : cX8_teaches.data.toList.drop 23 = dktX8_teaches_1 := dk_seg dksX8_teaches_0 23 rfl rfl
theorem dksX8_teaches_2 : cX8_teaches.data.toList.drop 46 = dktX8_teaches_2 := dk_seg dksX8_teaches_1 23 rfl rfl
theorem dksX8_teaches_3 : cX8_teaches.data.toList.drop 70 = dktX8_teaches_3 := dk_seg dksX8_teaches_2 24 rfl rfl
theorem dX8_teaches_0 : decode cX8_teaches 0 = .ok (.bipush 64, 2) := dk_16 64 (dk_at dksX8_teaches_0 0 rfl rfl)
theorem dX8_teaches_2 : decode cX8_teaches 2 = .ok (.iload_n 1, 1) := dk_27 (dk_at dksX8_teaches_0 2 rfl rfl)
theorem dX8_teaches_3 : decode cX8_teaches 3 = .ok (.imul, 1) := dk_104 (dk_at dksX8_teaches_0 3 rfl rfl)
theorem dX8_teaches_4 : decode cX8_teaches 4 = .ok (.bipush 8, 2) := dk_16 8 (dk_at dksX8_teaches_0 4 rfl rfl)
theorem dX8_teaches_6 : decode cX8_teaches 6 = .ok (.iload_n 2, 1) := dk_28 (dk_at dksX8_teaches_0 6 rfl rfl)
theorem dX8_teaches_7 : decode cX8_teaches 7 = .ok (.imul, 1) := dk_104 (dk_at dksX8_teaches_0 7 rfl rfl)
theorem dX8_teaches_8 : decode cX8_teaches 8 = .ok (.iadd, 1) := dk_96 (dk_at dksX8_teaches_0 8 rfl rfl)
theorem dX8_teaches_9 : decode cX8_teaches 9 = .ok (.iload_n 3, 1) := dk_29 (dk_at dksX8_teaches_0 9 rfl rfl)
theorem dX8_teaches_10 : decode cX8_teaches 10 = .ok (.iadd, 1) := dk_96 (dk_at dksX8_teaches_0 10 rfl rfl)
theorem dX8_teaches_11 : decode cX8_teaches 11 = .ok (.istore 6, 2) := dk_54 6 (dk_at dksX8_teaches_0 11 rfl rfl)
theorem dX8_teaches_13 : decode cX8_teaches 13 = .ok (.aload_n 0, 1) := dk_42 (dk_at dksX8_teaches_0 13 rfl rfl)
theorem dX8_teaches_14 : decode cX8_teaches 14 = .ok (.getfield 61, 3) := dk_180 0 61 (dk_at dksX8_teaches_0 14 rfl rfl)
theorem dX8_teaches_17 : decode cX8_teaches 17 = .ok (.bipush 64, 2) := dk_16 64 (dk_at dksX8_teaches_0 17 rfl rfl)
theorem dX8_teaches_19 : decode cX8_teaches 19 = .ok (.iload_n 1, 1) := dk_27 (dk_at dksX8_teaches_0 19 rfl rfl)
theorem dX8_teaches_20 : decode cX8_teaches 20 = .ok (.imul, 1) := dk_104 (dk_at dksX8_teaches_0 20 rfl rfl)
theorem dX8_teaches_21 : decode cX8_teaches 21 = .ok (.bipush 8, 2) := dk_16 8 (dk_at dksX8_teaches_0 21 rfl rfl)
theorem dX8_teaches_23 : decode cX8_teaches 23 = .ok (.iload 5, 2) := dk_21 5 (dk_at dksX8_teaches_1 0 rfl rfl)
theorem dX8_teaches_25 : decode cX8_teaches 25 = .ok (.imul, 1) := dk_104 (dk_at dksX8_teaches_1 2 rfl rfl)
theorem dX8_teaches_26 : decode cX8_teaches 26 = .ok (.iadd, 1) := dk_96 (dk_at dksX8_teaches_1 3 rfl rfl)
theorem dX8_teaches_27 : decode cX8_teaches 27 = .ok (.aload_n 0, 1) := dk_42 (dk_at dksX8_teaches_1 4 rfl rfl)
theorem dX8_teaches_28 : decode cX8_teaches 28 = .ok (.iload_n 1, 1) := dk_27 (dk_at dksX8_teaches_1 5 rfl rfl)
theorem dX8_teaches_29 : decode cX8_teaches 29 = .ok (.iload 5, 2) := dk_21 5 (dk_at dksX8_teaches_1 6 rfl rfl)
theorem dX8_teaches_31 : decode cX8_teaches 31 = .ok (.invokevirtual 385, 3) := dk_182 1 129 (dk_at dksX8_teaches_1 8 rfl rfl)
theorem dX8_teaches_34 : decode cX8_teaches 34 = .ok (.iadd, 1) := dk_96 (dk_at dksX8_teaches_1 11 rfl rfl)
theorem dX8_teaches_35 : decode cX8_teaches 35 = .ok (.iaload, 1) := dk_46 (dk_at dksX8_teaches_1 12 rfl rfl)
theorem dX8_teaches_36 : decode cX8_teaches 36 = .ok (.istore 7, 2) := dk_54 7 (dk_at dksX8_teaches_1 13 rfl rfl)
theorem dX8_teaches_38 : decode cX8_teaches 38 = .ok (.aload_n 0, 1) := dk_42 (dk_at dksX8_teaches_1 15 rfl rfl)
theorem dX8_teaches_39 : decode cX8_teaches 39 = .ok (.getfield 61, 3) := dk_180 0 61 (dk_at dksX8_teaches_1 16 rfl rfl)
theorem dX8_teaches_42 : decode cX8_teaches 42 = .ok (.iload 6, 2) := dk_21 6 (dk_at dksX8_teaches_1 19 rfl rfl)
theorem dX8_teaches_44 : decode cX8_teaches 44 = .ok (.dup2, 1) := dk_92 (dk_at dksX8_teaches_1 21 rfl rfl)
theorem dX8_teaches_45 : decode cX8_teaches 45 = .ok (.iaload, 1) := dk_46 (dk_at dksX8_teaches_1 22 rfl rfl)
theorem dX8_teaches_46 : decode cX8_teaches 46 = .ok (.bipush 8, 2) := dk_16 8 (dk_at dksX8_teaches_2 0 rfl rfl)
theorem dX8_teaches_48 : decode cX8_teaches 48 = .ok (.iload 4, 2) := dk_21 4 (dk_at dksX8_teaches_2 2 rfl rfl)
theorem dX8_teaches_50 : decode cX8_teaches 50 = .ok (.imul, 1) := dk_104 (dk_at dksX8_teaches_2 4 rfl rfl)
theorem dX8_teaches_51 : decode cX8_teaches 51 = .ok (.bipush 7, 2) := dk_16 7 (dk_at dksX8_teaches_2 5 rfl rfl)
theorem dX8_teaches_53 : decode cX8_teaches 53 = .ok (.iload 7, 2) := dk_21 7 (dk_at dksX8_teaches_2 7 rfl rfl)
theorem dX8_teaches_55 : decode cX8_teaches 55 = .ok (.imul, 1) := dk_104 (dk_at dksX8_teaches_2 9 rfl rfl)
theorem dX8_teaches_56 : decode cX8_teaches 56 = .ok (.bipush 8, 2) := dk_16 8 (dk_at dksX8_teaches_2 10 rfl rfl)
theorem dX8_teaches_58 : decode cX8_teaches 58 = .ok (.idiv, 1) := dk_108 (dk_at dksX8_teaches_2 12 rfl rfl)
theorem dX8_teaches_59 : decode cX8_teaches 59 = .ok (.iadd, 1) := dk_96 (dk_at dksX8_teaches_2 13 rfl rfl)
theorem dX8_teaches_60 : decode cX8_teaches 60 = .ok (.aload_n 0, 1) := dk_42 (dk_at dksX8_teaches_2 14 rfl rfl)
theorem dX8_teaches_61 : decode cX8_teaches 61 = .ok (.getfield 61, 3) := dk_180 0 61 (dk_at dksX8_teaches_2 15 rfl rfl)
theorem dX8_teaches_64 : decode cX8_teaches 64 = .ok (.iload 6, 2) := dk_21 6 (dk_at dksX8_teaches_2 18 rfl rfl)
theorem dX8_teaches_66 : decode cX8_teaches 66 = .ok (.iaload, 1) := dk_46 (dk_at dksX8_teaches_2 20 rfl rfl)
theorem dX8_teaches_67 : decode cX8_teaches 67 = .ok (.isub, 1) := dk_100 (dk_at dksX8_teaches_2 21 rfl rfl)
theorem dX8_teaches_68 : decode cX8_teaches 68 = .ok (.bipush 8, 2) := dk_16 8 (dk_at dksX8_teaches_2 22 rfl rfl)
theorem dX8_teaches_70 : decode cX8_teaches 70 = .ok (.idiv, 1) := dk_108 (dk_at dksX8_teaches_3 0 rfl rfl)
theorem dX8_teaches_71 : decode cX8_teaches 71 = .ok (.iadd, 1) := dk_96 (dk_at dksX8_teaches_3 1 rfl rfl)
theorem dX8_teaches_72 : decode cX8_teaches 72 = .ok (.iastore, 1) := dk_79 (dk_at dksX8_teaches_3 2 rfl rfl)
theorem dX8_teaches_73 : decode cX8_teaches 73 = .ok (.return_, 1) := dk_177 (dk_at dksX8_teaches_3 3 rfl rfl)
abbrev cX8_above : ByteArray := prog_29_method_90_code
def yX8_above : MethodName := ⟨RX8, "above", "(IIII)I"⟩
def dkwX8_above_5 : List UInt8 := [21, 6, 164, 0, 7, 4, 167, 0, 4, 3, 96, 54, 7, 132, 8, 1, 167, 255, 212, 21, 7, 172]
abbrev dktX8_above_5 : List UInt8 := dkwX8_above_5 ++ []
def dkwX8_above_4 : List UInt8 := [163, 0, 43, 42, 29, 21, 8, 182, 1, 148, 21, 7, 42, 42, 180, 1, 132, 42, 180, 1, 135, 182, 1, 109]
abbrev dktX8_above_4 : List UInt8 := dkwX8_above_4 ++ dktX8_above_5
def dkwX8_above_3 : List UInt8 := [16, 10, 108, 21, 5, 16, 10, 112, 182, 1, 109, 54, 6, 3, 54, 7, 4, 54, 8, 21, 8, 21, 4]
abbrev dktX8_above_3 : List UInt8 := dkwX8_above_3 ++ dktX8_above_4
def dkwX8_above_2 : List UInt8 := [42, 27, 28, 182, 1, 97, 42, 3, 182, 1, 106, 54, 5, 21, 5, 2, 160, 0, 5, 2, 172, 42, 21, 5]
abbrev dktX8_above_2 : List UInt8 := dkwX8_above_2 ++ dktX8_above_3
def dkwX8_above_1 : List UInt8 := [10, 20, 0, 95, 184, 0, 79, 154, 0, 8, 42, 5, 181, 0, 76, 42, 180, 0, 76, 158, 0, 5, 3, 172]
abbrev dktX8_above_1 : List UInt8 := dkwX8_above_1 ++ dktX8_above_2
def dkwX8_above_0 : List UInt8 := [42, 42, 27, 28, 29, 17, 1, 44, 182, 1, 145, 181, 0, 76, 42, 180, 0, 76, 154, 0, 21, 21, 4, 133]
abbrev dktX8_above_0 : List UInt8 := dkwX8_above_0 ++ dktX8_above_1
theorem dksX8_above_0 : cX8_above.data.toList.drop 0 = dktX8_above_0 := by decide +kernel
theorem dksX8_above_1 : cX8_above.data.toList.drop 24 = dktX8_above_1 := dk_seg dksX8_above_0 24 rfl rfl
theorem dksX8_above_2 : cX8_above.data.toList.drop 48 = dktX8_above_2 := dk_seg dksX8_above_1 24 rfl rfl
theorem dksX8_above_3 : cX8_above.data.toList.drop 72 = dktX8_above_3 := dk_seg dksX8_above_2 24 rfl rfl
theorem dksX8_above_4 : cX8_above.data.toList.drop 95 = dktX8_above_4 := dk_seg dksX8_above_3 23 rfl rfl
theorem dksX8_above_5 : cX8_above.data.toList.drop 119 = dktX8_above_5 := dk_seg dksX8_above_4 24 rfl rfl
theorem dX8_above_0 : decode cX8_above 0 = .ok (.aload_n 0, 1) := dk_42 (dk_at dksX8_above_0 0 rfl rfl)
theorem dX8_above_1 : decode cX8_above 1 = .ok (.aload_n 0, 1) := dk_42 (dk_at dksX8_above_0 1 rfl rfl)
theorem dX8_above_2 : decode cX8_above 2 = .ok (.iload_n 1, 1) := dk_27 (dk_at dksX8_above_0 2 rfl rfl)
theorem dX8_above_3 : decode cX8_above 3 = .ok (.iload_n 2, 1) := dk_28 (dk_at dksX8_above_0 3 rfl rfl)
theorem dX8_above_4 : decode cX8_above 4 = .ok (.iload_n 3, 1) := dk_29 (dk_at dksX8_above_0 4 rfl rfl)
theorem dX8_above_5 : decode cX8_above 5 = .ok (.sipush 300, 3) := dk_17 1 44 (dk_at dksX8_above_0 5 rfl rfl)
theorem dX8_above_8 : decode cX8_above 8 = .ok (.invokevirtual 401, 3) := dk_182 1 145 (dk_at dksX8_above_0 8 rfl rfl)
theorem dX8_above_11 : decode cX8_above 11 = .ok (.putfield 76, 3) := dk_181 0 76 (dk_at dksX8_above_0 11 rfl rfl)
theorem dX8_above_14 : decode cX8_above 14 = .ok (.aload_n 0, 1) := dk_42 (dk_at dksX8_above_0 14 rfl rfl)
theorem dX8_above_15 : decode cX8_above 15 = .ok (.getfield 76, 3) := dk_180 0 76 (dk_at dksX8_above_0 15 rfl rfl)
theorem dX8_above_18 : decode cX8_above 18 = .ok (.ifCond .ne 21, 3) := dk_154 0 21 (dk_at dksX8_above_0 18 rfl rfl)
theorem dX8_above_21 : decode cX8_above 21 = .ok (.iload 4, 2) := dk_21 4 (dk_at dksX8_above_0 21 rfl rfl)
theorem dX8_above_23 : decode cX8_above 23 = .ok (.i2l, 1) := dk_133 (dk_at dksX8_above_0 23 rfl rfl)
theorem dX8_above_24 : decode cX8_above 24 = .ok (.lconst 1, 1) := dk_10 (dk_at dksX8_above_1 0 rfl rfl)
theorem dX8_above_25 : decode cX8_above 25 = .ok (.ldc2_w 95, 3) := dk_20 0 95 (dk_at dksX8_above_1 1 rfl rfl)
theorem dX8_above_28 : decode cX8_above 28 = .ok (.invokestatic 79, 3) := dk_184 0 79 (dk_at dksX8_above_1 4 rfl rfl)
theorem dX8_above_31 : decode cX8_above 31 = .ok (.ifCond .ne 8, 3) := dk_154 0 8 (dk_at dksX8_above_1 7 rfl rfl)
theorem dX8_above_34 : decode cX8_above 34 = .ok (.aload_n 0, 1) := dk_42 (dk_at dksX8_above_1 10 rfl rfl)
theorem dX8_above_35 : decode cX8_above 35 = .ok (.iconst 2, 1) := dk_5 (dk_at dksX8_above_1 11 rfl rfl)
theorem dX8_above_36 : decode cX8_above 36 = .ok (.putfield 76, 3) := dk_181 0 76 (dk_at dksX8_above_1 12 rfl rfl)
theorem dX8_above_39 : decode cX8_above 39 = .ok (.aload_n 0, 1) := dk_42 (dk_at dksX8_above_1 15 rfl rfl)
theorem dX8_above_40 : decode cX8_above 40 = .ok (.getfield 76, 3) := dk_180 0 76 (dk_at dksX8_above_1 16 rfl rfl)
theorem dX8_above_43 : decode cX8_above 43 = .ok (.ifCond .le 5, 3) := dk_158 0 5 (dk_at dksX8_above_1 19 rfl rfl)
theorem dX8_above_46 : decode cX8_above 46 = .ok (.iconst 0, 1) := dk_3 (dk_at dksX8_above_1 22 rfl rfl)
theorem dX8_above_47 : decode cX8_above 47 = .ok (.ireturn, 1) := dk_172 (dk_at dksX8_above_1 23 rfl rfl)
theorem dX8_above_48 : decode cX8_above 48 = .ok (.aload_n 0, 1) := dk_42 (dk_at dksX8_above_2 0 rfl rfl)
theorem dX8_above_49 : decode cX8_above 49 = .ok (.iload_n 1, 1) := dk_27 (dk_at dksX8_above_2 1 rfl rfl)
theorem dX8_above_50 : decode cX8_above 50 = .ok (.iload_n 2, 1) := dk_28 (dk_at dksX8_above_2 2 rfl rfl)
theorem dX8_above_51 : decode cX8_above 51 = .ok (.invokevirtual 353, 3) := dk_182 1 97 (dk_at dksX8_above_2 3 rfl rfl)
theorem dX8_above_54 : decode cX8_above 54 = .ok (.aload_n 0, 1) := dk_42 (dk_at dksX8_above_2 6 rfl rfl)
theorem dX8_above_55 : decode cX8_above 55 = .ok (.iconst 0, 1) := dk_3 (dk_at dksX8_above_2 7 rfl rfl)
theorem dX8_above_56 : decode cX8_above 56 = .ok (.invokevirtual 362, 3) := dk_182 1 106 (dk_at dksX8_above_2 8 rfl rfl)
theorem dX8_above_59 : decode cX8_above 59 = .ok (.istore 5, 2) := dk_54 5 (dk_at dksX8_above_2 11 rfl rfl)
theorem dX8_above_61 : decode cX8_above 61 = .ok (.iload 5, 2) := dk_21 5 (dk_at dksX8_above_2 13 rfl rfl)
theorem dX8_above_63 : decode cX8_above 63 = .ok (.iconst (-1), 1) := dk_2 (dk_at dksX8_above_2 15 rfl rfl)
theorem dX8_above_64 : decode cX8_above 64 = .ok (.if_icmp .ne 5, 3) := dk_160 0 5 (dk_at dksX8_above_2 16 rfl rfl)
theorem dX8_above_67 : decode cX8_above 67 = .ok (.iconst (-1), 1) := dk_2 (dk_at dksX8_above_2 19 rfl rfl)
theorem dX8_above_68 : decode cX8_above 68 = .ok (.ireturn, 1) := dk_172 (dk_at dksX8_above_2 20 rfl rfl)
theorem dX8_above_69 : decode cX8_above 69 = .ok (.aload_n 0, 1) := dk_42 (dk_at dksX8_above_2 21 rfl rfl)
theorem dX8_above_70 : decode cX8_above 70 = .ok (.iload 5, 2) := dk_21 5 (dk_at dksX8_above_2 22 rfl rfl)
theorem dX8_above_72 : decode cX8_above 72 = .ok (.bipush 10, 2) := dk_16 10 (dk_at dksX8_above_3 0 rfl rfl)
theorem dX8_above_74 : decode cX8_above 74 = .ok (.idiv, 1) := dk_108 (dk_at dksX8_above_3 2 rfl rfl)
theorem dX8_above_75 : decode cX8_above 75 = .ok (.iload 5, 2) := dk_21 5 (dk_at dksX8_above_3 3 rfl rfl)
theorem dX8_above_77 : decode cX8_above 77 = .ok (.bipush 10, 2) := dk_16 10 (dk_at dksX8_above_3 5 rfl rfl)
theorem dX8_above_79 : decode cX8_above 79 = .ok (.irem, 1) := dk_112 (dk_at dksX8_above_3 7 rfl rfl)
theorem dX8_above_80 : decode cX8_above 80 = .ok (.invokevirtual 365, 3) := dk_182 1 109 (dk_at dksX8_above_3 8 rfl rfl)
theorem dX8_above_83 : decode cX8_above 83 = .ok (.istore 6, 2) := dk_54 6 (dk_at dksX8_above_3 11 rfl rfl)
theorem dX8_above_85 : decode cX8_above 85 = .ok (.iconst 0, 1) := dk_3 (dk_at dksX8_above_3 13 rfl rfl)
theorem dX8_above_86 : decode cX8_above 86 = .ok (.istore 7, 2) := dk_54 7 (dk_at dksX8_above_3 14 rfl rfl)
theorem dX8_above_88 : decode cX8_above 88 = .ok (.iconst 1, 1) := dk_4 (dk_at dksX8_above_3 16 rfl rfl)
theorem dX8_above_89 : decode cX8_above 89 = .ok (.istore 8, 2) := dk_54 8 (dk_at dksX8_above_3 17 rfl rfl)
theorem dX8_above_91 : decode cX8_above 91 = .ok (.iload 8, 2) := dk_21 8 (dk_at dksX8_above_3 19 rfl rfl)
theorem dX8_above_93 : decode cX8_above 93 = .ok (.iload 4, 2) := dk_21 4 (dk_at dksX8_above_3 21 rfl rfl)
theorem dX8_above_95 : decode cX8_above 95 = .ok (.if_icmp .gt 43, 3) := dk_163 0 43 (dk_at dksX8_above_4 0 rfl rfl)
theorem dX8_above_98 : decode cX8_above 98 = .ok (.aload_n 0, 1) := dk_42 (dk_at dksX8_above_4 3 rfl rfl)
theorem dX8_above_99 : decode cX8_above 99 = .ok (.iload_n 3, 1) := dk_29 (dk_at dksX8_above_4 4 rfl rfl)
theorem dX8_above_100 : decode cX8_above 100 = .ok (.iload 8, 2) := dk_21 8 (dk_at dksX8_above_4 5 rfl rfl)
theorem dX8_above_102 : decode cX8_above 102 = .ok (.invokevirtual 404, 3) := dk_182 1 148 (dk_at dksX8_above_4 7 rfl rfl)
theorem dX8_above_105 : decode cX8_above 105 = .ok (.iload 7, 2) := dk_21 7 (dk_at dksX8_above_4 10 rfl rfl)
theorem dX8_above_107 : decode cX8_above 107 = .ok (.aload_n 0, 1) := dk_42 (dk_at dksX8_above_4 12 rfl rfl)
theorem dX8_above_108 : decode cX8_above 108 = .ok (.aload_n 0, 1) := dk_42 (dk_at dksX8_above_4 13 rfl rfl)
theorem dX8_above_109 : decode cX8_above 109 = .ok (.getfield 388, 3) := dk_180 1 132 (dk_at dksX8_above_4 14 rfl rfl)
theorem dX8_above_112 : decode cX8_above 112 = .ok (.aload_n 0, 1) := dk_42 (dk_at dksX8_above_4 17 rfl rfl)
theorem dX8_above_113 : decode cX8_above 113 = .ok (.getfield 391, 3) := dk_180 1 135 (dk_at dksX8_above_4 18 rfl rfl)
theorem dX8_above_116 : decode cX8_above 116 = .ok (.invokevirtual 365, 3) := dk_182 1 109 (dk_at dksX8_above_4 21 rfl rfl)
theorem dX8_above_119 : decode cX8_above 119 = .ok (.iload 6, 2) := dk_21 6 (dk_at dksX8_above_5 0 rfl rfl)
theorem dX8_above_121 : decode cX8_above 121 = .ok (.if_icmp .le 7, 3) := dk_164 0 7 (dk_at dksX8_above_5 2 rfl rfl)
theorem dX8_above_124 : decode cX8_above 124 = .ok (.iconst 1, 1) := dk_4 (dk_at dksX8_above_5 5 rfl rfl)
theorem dX8_above_125 : decode cX8_above 125 = .ok (.goto 4, 3) := dk_167 0 4 (dk_at dksX8_above_5 6 rfl rfl)
theorem dX8_above_128 : decode cX8_above 128 = .ok (.iconst 0, 1) := dk_3 (dk_at dksX8_above_5 9 rfl rfl)
theorem dX8_above_129 : decode cX8_above 129 = .ok (.iadd, 1) := dk_96 (dk_at dksX8_above_5 10 rfl rfl)
theorem dX8_above_130 : decode cX8_above 130 = .ok (.istore 7, 2) := dk_54 7 (dk_at dksX8_above_5 11 rfl rfl)
theorem dX8_above_132 : decode cX8_above 132 = .ok (.iinc 8 1, 3) := dk_132 8 1 (dk_at dksX8_above_5 13 rfl rfl)
theorem dX8_above_135 : decode cX8_above 135 = .ok (.goto (-44), 3) := dk_167 255 212 (dk_at dksX8_above_5 16 rfl rfl)
theorem dX8_above_138 : decode cX8_above 138 = .ok (.iload 7, 2) := dk_21 7 (dk_at dksX8_above_5 19 rfl rfl)
theorem dX8_above_140 : decode cX8_above 140 = .ok (.ireturn, 1) := dk_172 (dk_at dksX8_above_5 21 rfl rfl)
abbrev cX8_punish : ByteArray := prog_29_method_91_code
def yX8_punish : MethodName := ⟨RX8, "punish", "(IIIII)I"⟩
def dkwX8_punish_2 : List UInt8 := [182, 1, 148, 42, 4, 21, 5, 182, 1, 129, 172]
abbrev dktX8_punish_2 : List UInt8 := dkwX8_punish_2 ++ []
def dkwX8_punish_1 : List UInt8 := [21, 5, 182, 1, 94, 154, 0, 9, 42, 6, 182, 0, 83, 172, 42, 27, 28, 182, 1, 97, 42, 29, 21, 4]
abbrev dktX8_punish_1 : List UInt8 := dkwX8_punish_1 ++ dktX8_punish_2
def dkwX8_punish_0 : List UInt8 := [42, 42, 27, 28, 29, 17, 7, 208, 182, 1, 145, 181, 0, 76, 42, 180, 0, 76, 158, 0, 5, 3, 172, 42]
abbrev dktX8_punish_0 : List UInt8 := dkwX8_punish_0 ++ dktX8_punish_1
theorem dksX8_punish_0 : cX8_punish.data.toList.drop 0 = dktX8_punish_0 := by decide +kernel
theorem dksX8_punish_1 : cX8_punish.data.toList.drop 24 = dktX8_punish_1 := dk_seg dksX8_punish_0 24 rfl rfl
theorem dksX8_punish_2 : cX8_punish.data.toList.drop 48 = dktX8_punish_2 := dk_seg dksX8_punish_1 24 rfl rfl
theorem dX8_punish_0 : decode cX8_punish 0 = .ok (.aload_n 0, 1) := dk_42 (dk_at dksX8_punish_0 0 rfl rfl)
theorem dX8_punish_1 : decode cX8_punish 1 = .ok (.aload_n 0, 1) := dk_42 (dk_at dksX8_punish_0 1 rfl rfl)
theorem dX8_punish_2 : decode cX8_punish 2 = .ok (.iload_n 1, 1) := dk_27 (dk_at dksX8_punish_0 2 rfl rfl)
theorem dX8_punish_3 : decode cX8_punish 3 = .ok (.iload_n 2, 1) := dk_28 (dk_at dksX8_punish_0 3 rfl rfl)
theorem dX8_punish_4 : decode cX8_punish 4 = .ok (.iload_n 3, 1) := dk_29 (dk_at dksX8_punish_0 4 rfl rfl)
theorem dX8_punish_5 : decode cX8_punish 5 = .ok (.sipush 2000, 3) := dk_17 7 208 (dk_at dksX8_punish_0 5 rfl rfl)
theorem dX8_punish_8 : decode cX8_punish 8 = .ok (.invokevirtual 401, 3) := dk_182 1 145 (dk_at dksX8_punish_0 8 rfl rfl)
theorem dX8_punish_11 : decode cX8_punish 11 = .ok (.putfield 76, 3) := dk_181 0 76 (dk_at dksX8_punish_0 11 rfl rfl)
theorem dX8_punish_14 : decode cX8_punish 14 = .ok (.aload_n 0, 1) := dk_42 (dk_at dksX8_punish_0 14 rfl rfl)
theorem dX8_punish_15 : decode cX8_punish 15 = .ok (.getfield 76, 3) := dk_180 0 76 (dk_at dksX8_punish_0 15 rfl rfl)
theorem dX8_punish_18 : decode cX8_punish 18 = .ok (.ifCond .le 5, 3) := dk_158 0 5 (dk_at dksX8_punish_0 18 rfl rfl)
theorem dX8_punish_21 : decode cX8_punish 21 = .ok (.iconst 0, 1) := dk_3 (dk_at dksX8_punish_0 21 rfl rfl)
theorem dX8_punish_22 : decode cX8_punish 22 = .ok (.ireturn, 1) := dk_172 (dk_at dksX8_punish_0 22 rfl rfl)
theorem dX8_punish_23 : decode cX8_punish 23 = .ok (.aload_n 0, 1) := dk_42 (dk_at dksX8_punish_0 23 rfl rfl)
theorem dX8_punish_24 : decode cX8_punish 24 = .ok (.iload 5, 2) := dk_21 5 (dk_at dksX8_punish_1 0 rfl rfl)
theorem dX8_punish_26 : decode cX8_punish 26 = .ok (.invokevirtual 350, 3) := dk_182 1 94 (dk_at dksX8_punish_1 2 rfl rfl)
theorem dX8_punish_29 : decode cX8_punish 29 = .ok (.ifCond .ne 9, 3) := dk_154 0 9 (dk_at dksX8_punish_1 5 rfl rfl)
theorem dX8_punish_32 : decode cX8_punish 32 = .ok (.aload_n 0, 1) := dk_42 (dk_at dksX8_punish_1 8 rfl rfl)
theorem dX8_punish_33 : decode cX8_punish 33 = .ok (.iconst 3, 1) := dk_6 (dk_at dksX8_punish_1 9 rfl rfl)
theorem dX8_punish_34 : decode cX8_punish 34 = .ok (.invokevirtual 83, 3) := dk_182 0 83 (dk_at dksX8_punish_1 10 rfl rfl)
theorem dX8_punish_37 : decode cX8_punish 37 = .ok (.ireturn, 1) := dk_172 (dk_at dksX8_punish_1 13 rfl rfl)
theorem dX8_punish_38 : decode cX8_punish 38 = .ok (.aload_n 0, 1) := dk_42 (dk_at dksX8_punish_1 14 rfl rfl)
theorem dX8_punish_39 : decode cX8_punish 39 = .ok (.iload_n 1, 1) := dk_27 (dk_at dksX8_punish_1 15 rfl rfl)
theorem dX8_punish_40 : decode cX8_punish 40 = .ok (.iload_n 2, 1) := dk_28 (dk_at dksX8_punish_1 16 rfl rfl)
theorem dX8_punish_41 : decode cX8_punish 41 = .ok (.invokevirtual 353, 3) := dk_182 1 97 (dk_at dksX8_punish_1 17 rfl rfl)
theorem dX8_punish_44 : decode cX8_punish 44 = .ok (.aload_n 0, 1) := dk_42 (dk_at dksX8_punish_1 20 rfl rfl)
theorem dX8_punish_45 : decode cX8_punish 45 = .ok (.iload_n 3, 1) := dk_29 (dk_at dksX8_punish_1 21 rfl rfl)
theorem dX8_punish_46 : decode cX8_punish 46 = .ok (.iload 4, 2) := dk_21 4 (dk_at dksX8_punish_1 22 rfl rfl)
theorem dX8_punish_48 : decode cX8_punish 48 = .ok (.invokevirtual 404, 3) := dk_182 1 148 (dk_at dksX8_punish_2 0 rfl rfl)
theorem dX8_punish_51 : decode cX8_punish 51 = .ok (.aload_n 0, 1) := dk_42 (dk_at dksX8_punish_2 3 rfl rfl)
theorem dX8_punish_52 : decode cX8_punish 52 = .ok (.iconst 1, 1) := dk_4 (dk_at dksX8_punish_2 4 rfl rfl)
theorem dX8_punish_53 : decode cX8_punish 53 = .ok (.iload 5, 2) := dk_21 5 (dk_at dksX8_punish_2 5 rfl rfl)
theorem dX8_punish_55 : decode cX8_punish 55 = .ok (.invokevirtual 385, 3) := dk_182 1 129 (dk_at dksX8_punish_2 7 rfl rfl)
theorem dX8_punish_58 : decode cX8_punish 58 = .ok (.ireturn, 1) := dk_172 (dk_at dksX8_punish_2 10 rfl rfl)
abbrev cX8_story : ByteArray := prog_29_method_92_code
def yX8_story : MethodName := ⟨RX8, "story", "(II)Z"⟩
def dkwX8_story_5 : List UInt8 := [96, 29, 96, 42, 180, 0, 73, 16, 28, 28, 104, 29, 96, 47, 136, 79, 132, 3, 1, 167, 255, 221, 4, 172]
abbrev dktX8_story_5 : List UInt8 := dkwX8_story_5 ++ []
def dkwX8_story_4 : List UInt8 := [132, 3, 1, 167, 255, 224, 3, 62, 29, 16, 21, 162, 0, 35, 42, 180, 0, 9, 16, 78, 16, 21, 27, 104]
abbrev dktX8_story_4 : List UInt8 := dkwX8_story_4 ++ dktX8_story_5
def dkwX8_story_3 : List UInt8 := [180, 0, 73, 16, 28, 28, 104, 29, 96, 47, 9, 20, 1, 154, 184, 0, 79, 154, 0, 5, 3, 172]
abbrev dktX8_story_3 : List UInt8 := dkwX8_story_3 ++ dktX8_story_4
def dkwX8_story_2 : List UInt8 := [42, 180, 0, 70, 28, 46, 16, 21, 159, 0, 5, 3, 172, 3, 62, 29, 16, 21, 162, 0, 32, 42]
abbrev dktX8_story_2 : List UInt8 := dkwX8_story_2 ++ dktX8_story_3
def dkwX8_story_1 : List UInt8 := [180, 0, 67, 28, 46, 2, 160, 0, 7, 5, 167, 0, 4, 3, 181, 0, 76, 42, 180, 0, 76, 157, 0, 14]
abbrev dktX8_story_1 : List UInt8 := dkwX8_story_1 ++ dktX8_story_2
def dkwX8_story_0 : List UInt8 := [42, 27, 133, 9, 10, 184, 0, 79, 153, 0, 10, 28, 184, 1, 151, 154, 0, 7, 4, 167, 0, 18, 42]
abbrev dktX8_story_0 : List UInt8 := dkwX8_story_0 ++ dktX8_story_1
theorem dksX8_story_0 : cX8_story.data.toList.drop 0 = dktX8_story_0 := by decide +kernel
theorem dksX8_story_1 : cX8_story.data.toList.drop 23 = dktX8_story_1 := dk_seg dksX8_story_0 23 rfl rfl
theorem dksX8_story_2 : cX8_story.data.toList.drop 47 = dktX8_story_2 := dk_seg dksX8_story_1 24 rfl rfl
theorem dksX8_story_3 : cX8_story.data.toList.drop 69 = dktX8_story_3 := dk_seg dksX8_story_2 22 rfl rfl
theorem dksX8_story_4 : cX8_story.data.toList.drop 91 = dktX8_story_4 := dk_seg dksX8_story_3 22 rfl rfl
theorem dksX8_story_5 : cX8_story.data.toList.drop 115 = dktX8_story_5 := dk_seg dksX8_story_4 24 rfl rfl
theorem dX8_story_0 : decode cX8_story 0 = .ok (.aload_n 0, 1) := dk_42 (dk_at dksX8_story_0 0 rfl rfl)
theorem dX8_story_1 : decode cX8_story 1 = .ok (.iload_n 1, 1) := dk_27 (dk_at dksX8_story_0 1 rfl rfl)
theorem dX8_story_2 : decode cX8_story 2 = .ok (.i2l, 1) := dk_133 (dk_at dksX8_story_0 2 rfl rfl)
theorem dX8_story_3 : decode cX8_story 3 = .ok (.lconst 0, 1) := dk_9 (dk_at dksX8_story_0 3 rfl rfl)
theorem dX8_story_4 : decode cX8_story 4 = .ok (.lconst 1, 1) := dk_10 (dk_at dksX8_story_0 4 rfl rfl)
theorem dX8_story_5 : decode cX8_story 5 = .ok (.invokestatic 79, 3) := dk_184 0 79 (dk_at dksX8_story_0 5 rfl rfl)
theorem dX8_story_8 : decode cX8_story 8 = .ok (.ifCond .eq 10, 3) := dk_153 0 10 (dk_at dksX8_story_0 8 rfl rfl)
theorem dX8_story_11 : decode cX8_story 11 = .ok (.iload_n 2, 1) := dk_28 (dk_at dksX8_story_0 11 rfl rfl)
theorem dX8_story_12 : decode cX8_story 12 = .ok (.invokestatic 407, 3) := dk_184 1 151 (dk_at dksX8_story_0 12 rfl rfl)
theorem dX8_story_15 : decode cX8_story 15 = .ok (.ifCond .ne 7, 3) := dk_154 0 7 (dk_at dksX8_story_0 15 rfl rfl)
theorem dX8_story_18 : decode cX8_story 18 = .ok (.iconst 1, 1) := dk_4 (dk_at dksX8_story_0 18 rfl rfl)
theorem dX8_story_19 : decode cX8_story 19 = .ok (.goto 18, 3) := dk_167 0 18 (dk_at dksX8_story_0 19 rfl rfl)
theorem dX8_story_22 : decode cX8_story 22 = .ok (.aload_n 0, 1) := dk_42 (dk_at dksX8_story_0 22 rfl rfl)
theorem dX8_story_23 : decode cX8_story 23 = .ok (.getfield 67, 3) := dk_180 0 67 (dk_at dksX8_story_1 0 rfl rfl)
theorem dX8_story_26 : decode cX8_story 26 = .ok (.iload_n 2, 1) := dk_28 (dk_at dksX8_story_1 3 rfl rfl)
theorem dX8_story_27 : decode cX8_story 27 = .ok (.iaload, 1) := dk_46 (dk_at dksX8_story_1 4 rfl rfl)
theorem dX8_story_28 : decode cX8_story 28 = .ok (.iconst (-1), 1) := dk_2 (dk_at dksX8_story_1 5 rfl rfl)
theorem dX8_story_29 : decode cX8_story 29 = .ok (.if_icmp .ne 7, 3) := dk_160 0 7 (dk_at dksX8_story_1 6 rfl rfl)
theorem dX8_story_32 : decode cX8_story 32 = .ok (.iconst 2, 1) := dk_5 (dk_at dksX8_story_1 9 rfl rfl)
theorem dX8_story_33 : decode cX8_story 33 = .ok (.goto 4, 3) := dk_167 0 4 (dk_at dksX8_story_1 10 rfl rfl)
theorem dX8_story_36 : decode cX8_story 36 = .ok (.iconst 0, 1) := dk_3 (dk_at dksX8_story_1 13 rfl rfl)
theorem dX8_story_37 : decode cX8_story 37 = .ok (.putfield 76, 3) := dk_181 0 76 (dk_at dksX8_story_1 14 rfl rfl)
theorem dX8_story_40 : decode cX8_story 40 = .ok (.aload_n 0, 1) := dk_42 (dk_at dksX8_story_1 17 rfl rfl)
theorem dX8_story_41 : decode cX8_story 41 = .ok (.getfield 76, 3) := dk_180 0 76 (dk_at dksX8_story_1 18 rfl rfl)
theorem dX8_story_44 : decode cX8_story 44 = .ok (.ifCond .gt 14, 3) := dk_157 0 14 (dk_at dksX8_story_1 21 rfl rfl)
theorem dX8_story_47 : decode cX8_story 47 = .ok (.aload_n 0, 1) := dk_42 (dk_at dksX8_story_2 0 rfl rfl)
theorem dX8_story_48 : decode cX8_story 48 = .ok (.getfield 70, 3) := dk_180 0 70 (dk_at dksX8_story_2 1 rfl rfl)
theorem dX8_story_51 : decode cX8_story 51 = .ok (.iload_n 2, 1) := dk_28 (dk_at dksX8_story_2 4 rfl rfl)
theorem dX8_story_52 : decode cX8_story 52 = .ok (.iaload, 1) := dk_46 (dk_at dksX8_story_2 5 rfl rfl)
theorem dX8_story_53 : decode cX8_story 53 = .ok (.bipush 21, 2) := dk_16 21 (dk_at dksX8_story_2 6 rfl rfl)
theorem dX8_story_55 : decode cX8_story 55 = .ok (.if_icmp .eq 5, 3) := dk_159 0 5 (dk_at dksX8_story_2 8 rfl rfl)
theorem dX8_story_58 : decode cX8_story 58 = .ok (.iconst 0, 1) := dk_3 (dk_at dksX8_story_2 11 rfl rfl)
theorem dX8_story_59 : decode cX8_story 59 = .ok (.ireturn, 1) := dk_172 (dk_at dksX8_story_2 12 rfl rfl)
theorem dX8_story_60 : decode cX8_story 60 = .ok (.iconst 0, 1) := dk_3 (dk_at dksX8_story_2 13 rfl rfl)
theorem dX8_story_61 : decode cX8_story 61 = .ok (.istore_n 3, 1) := dk_62 (dk_at dksX8_story_2 14 rfl rfl)
theorem dX8_story_62 : decode cX8_story 62 = .ok (.iload_n 3, 1) := dk_29 (dk_at dksX8_story_2 15 rfl rfl)
theorem dX8_story_63 : decode cX8_story 63 = .ok (.bipush 21, 2) := dk_16 21 (dk_at dksX8_story_2 16 rfl rfl)
theorem dX8_story_65 : decode cX8_story 65 = .ok (.if_icmp .ge 32, 3) := dk_162 0 32 (dk_at dksX8_story_2 18 rfl rfl)
theorem dX8_story_68 : decode cX8_story 68 = .ok (.aload_n 0, 1) := dk_42 (dk_at dksX8_story_2 21 rfl rfl)
theorem dX8_story_69 : decode cX8_story 69 = .ok (.getfield 73, 3) := dk_180 0 73 (dk_at dksX8_story_3 0 rfl rfl)
theorem dX8_story_72 : decode cX8_story 72 = .ok (.bipush 28, 2) := dk_16 28 (dk_at dksX8_story_3 3 rfl rfl)
theorem dX8_story_74 : decode cX8_story 74 = .ok (.iload_n 2, 1) := dk_28 (dk_at dksX8_story_3 5 rfl rfl)
theorem dX8_story_75 : decode cX8_story 75 = .ok (.imul, 1) := dk_104 (dk_at dksX8_story_3 6 rfl rfl)
theorem dX8_story_76 : decode cX8_story 76 = .ok (.iload_n 3, 1) := dk_29 (dk_at dksX8_story_3 7 rfl rfl)
theorem dX8_story_77 : decode cX8_story 77 = .ok (.iadd, 1) := dk_96 (dk_at dksX8_story_3 8 rfl rfl)
theorem dX8_story_78 : decode cX8_story 78 = .ok (.laload, 1) := dk_47 (dk_at dksX8_story_3 9 rfl rfl)
theorem dX8_story_79 : decode cX8_story 79 = .ok (.lconst 0, 1) := dk_9 (dk_at dksX8_story_3 10 rfl rfl)
theorem dX8_story_80 : decode cX8_story 80 = .ok (.ldc2_w 410, 3) := dk_20 1 154 (dk_at dksX8_story_3 11 rfl rfl)
theorem dX8_story_83 : decode cX8_story 83 = .ok (.invokestatic 79, 3) := dk_184 0 79 (dk_at dksX8_story_3 14 rfl rfl)
theorem dX8_story_86 : decode cX8_story 86 = .ok (.ifCond .ne 5, 3) := dk_154 0 5 (dk_at dksX8_story_3 17 rfl rfl)
theorem dX8_story_89 : decode cX8_story 89 = .ok (.iconst 0, 1) := dk_3 (dk_at dksX8_story_3 20 rfl rfl)
theorem dX8_story_90 : decode cX8_story 90 = .ok (.ireturn, 1) := dk_172 (dk_at dksX8_story_3 21 rfl rfl)
theorem dX8_story_91 : decode cX8_story 91 = .ok (.iinc 3 1, 3) := dk_132 3 1 (dk_at dksX8_story_4 0 rfl rfl)
theorem dX8_story_94 : decode cX8_story 94 = .ok (.goto (-32), 3) := dk_167 255 224 (dk_at dksX8_story_4 3 rfl rfl)
theorem dX8_story_97 : decode cX8_story 97 = .ok (.iconst 0, 1) := dk_3 (dk_at dksX8_story_4 6 rfl rfl)
theorem dX8_story_98 : decode cX8_story 98 = .ok (.istore_n 3, 1) := dk_62 (dk_at dksX8_story_4 7 rfl rfl)
theorem dX8_story_99 : decode cX8_story 99 = .ok (.iload_n 3, 1) := dk_29 (dk_at dksX8_story_4 8 rfl rfl)
theorem dX8_story_100 : decode cX8_story 100 = .ok (.bipush 21, 2) := dk_16 21 (dk_at dksX8_story_4 9 rfl rfl)
theorem dX8_story_102 : decode cX8_story 102 = .ok (.if_icmp .ge 35, 3) := dk_162 0 35 (dk_at dksX8_story_4 11 rfl rfl)
theorem dX8_story_105 : decode cX8_story 105 = .ok (.aload_n 0, 1) := dk_42 (dk_at dksX8_story_4 14 rfl rfl)
theorem dX8_story_106 : decode cX8_story 106 = .ok (.getfield 9, 3) := dk_180 0 9 (dk_at dksX8_story_4 15 rfl rfl)
theorem dX8_story_109 : decode cX8_story 109 = .ok (.bipush 78, 2) := dk_16 78 (dk_at dksX8_story_4 18 rfl rfl)
theorem dX8_story_111 : decode cX8_story 111 = .ok (.bipush 21, 2) := dk_16 21 (dk_at dksX8_story_4 20 rfl rfl)
theorem dX8_story_113 : decode cX8_story 113 = .ok (.iload_n 1, 1) := dk_27 (dk_at dksX8_story_4 22 rfl rfl)
theorem dX8_story_114 : decode cX8_story 114 = .ok (.imul, 1) := dk_104 (dk_at dksX8_story_4 23 rfl rfl)
theorem dX8_story_115 : decode cX8_story 115 = .ok (.iadd, 1) := dk_96 (dk_at dksX8_story_5 0 rfl rfl)
theorem dX8_story_116 : decode cX8_story 116 = .ok (.iload_n 3, 1) := dk_29 (dk_at dksX8_story_5 1 rfl rfl)
theorem dX8_story_117 : decode cX8_story 117 = .ok (.iadd, 1) := dk_96 (dk_at dksX8_story_5 2 rfl rfl)
theorem dX8_story_118 : decode cX8_story 118 = .ok (.aload_n 0, 1) := dk_42 (dk_at dksX8_story_5 3 rfl rfl)
theorem dX8_story_119 : decode cX8_story 119 = .ok (.getfield 73, 3) := dk_180 0 73 (dk_at dksX8_story_5 4 rfl rfl)
theorem dX8_story_122 : decode cX8_story 122 = .ok (.bipush 28, 2) := dk_16 28 (dk_at dksX8_story_5 7 rfl rfl)
theorem dX8_story_124 : decode cX8_story 124 = .ok (.iload_n 2, 1) := dk_28 (dk_at dksX8_story_5 9 rfl rfl)
theorem dX8_story_125 : decode cX8_story 125 = .ok (.imul, 1) := dk_104 (dk_at dksX8_story_5 10 rfl rfl)
theorem dX8_story_126 : decode cX8_story 126 = .ok (.iload_n 3, 1) := dk_29 (dk_at dksX8_story_5 11 rfl rfl)
theorem dX8_story_127 : decode cX8_story 127 = .ok (.iadd, 1) := dk_96 (dk_at dksX8_story_5 12 rfl rfl)
theorem dX8_story_128 : decode cX8_story 128 = .ok (.laload, 1) := dk_47 (dk_at dksX8_story_5 13 rfl rfl)
theorem dX8_story_129 : decode cX8_story 129 = .ok (.l2i, 1) := dk_136 (dk_at dksX8_story_5 14 rfl rfl)
theorem dX8_story_130 : decode cX8_story 130 = .ok (.iastore, 1) := dk_79 (dk_at dksX8_story_5 15 rfl rfl)
theorem dX8_story_131 : decode cX8_story 131 = .ok (.iinc 3 1, 3) := dk_132 3 1 (dk_at dksX8_story_5 16 rfl rfl)
theorem dX8_story_134 : decode cX8_story 134 = .ok (.goto (-35), 3) := dk_167 255 221 (dk_at dksX8_story_5 19 rfl rfl)
theorem dX8_story_137 : decode cX8_story 137 = .ok (.iconst 1, 1) := dk_4 (dk_at dksX8_story_5 22 rfl rfl)
theorem dX8_story_138 : decode cX8_story 138 = .ok (.ireturn, 1) := dk_172 (dk_at dksX8_story_5 23 rfl rfl)
abbrev cX8_isTray : ByteArray := prog_29_method_100_code
def yX8_isTray : MethodName := ⟨RX8, "isTray", "(I)Z"⟩
def dkwX8_isTray_0 : List UInt8 := [26, 133, 9, 20, 0, 89, 184, 0, 79, 172]
abbrev dktX8_isTray_0 : List UInt8 := dkwX8_isTray_0 ++ []
theorem dksX8_isTray_0 : cX8_isTray.data.toList.drop 0 = dktX8_isTray_0 := by decide +kernel
theorem dX8_isTray_0 : decode cX8_isTray 0 = .ok (.iload_n 0, 1) := dk_26 (dk_at dksX8_isTray_0 0 rfl rfl)
theorem dX8_isTray_1 : decode cX8_isTray 1 = .ok (.i2l, 1) := dk_133 (dk_at dksX8_isTray_0 1 rfl rfl)
theorem dX8_isTray_2 : decode cX8_isTray 2 = .ok (.lconst 0, 1) := dk_9 (dk_at dksX8_isTray_0 2 rfl rfl)
theorem dX8_isTray_3 : decode cX8_isTray 3 = .ok (.ldc2_w 89, 3) := dk_20 0 89 (dk_at dksX8_isTray_0 3 rfl rfl)
theorem dX8_isTray_6 : decode cX8_isTray 6 = .ok (.invokestatic 79, 3) := dk_184 0 79 (dk_at dksX8_isTray_0 6 rfl rfl)
theorem dX8_isTray_9 : decode cX8_isTray 9 = .ok (.ireturn, 1) := dk_172 (dk_at dksX8_isTray_0 9 rfl rfl)
abbrev cX8_rise : ByteArray := prog_29_method_94_code
def yX8_rise : MethodName := ⟨RX8, "rise", "(III)I"⟩
def dkwX8_rise_5 : List UInt8 := [4, 96, 79, 42, 180, 0, 9, 7, 46, 4, 100, 172]
abbrev dktX8_rise_5 : List UInt8 := dkwX8_rise_5 ++ []
def dkwX8_rise_4 : List UInt8 := [21, 5, 4, 96, 28, 79, 42, 180, 0, 9, 21, 5, 5, 96, 21, 4, 79, 42, 180, 0, 9, 7, 92, 46]
abbrev dktX8_rise_4 : List UInt8 := dkwX8_rise_4 ++ dktX8_rise_5
def dkwX8_rise_3 : List UInt8 := [6, 42, 180, 0, 9, 7, 46, 104, 96, 54, 5, 42, 180, 0, 9, 21, 5, 27, 79, 42, 180, 0, 9]
abbrev dktX8_rise_3 : List UInt8 := dkwX8_rise_3 ++ dktX8_rise_4
def dkwX8_rise_2 : List UInt8 := [154, 0, 9, 42, 4, 182, 0, 83, 172, 42, 180, 0, 9, 7, 46, 16, 6, 160, 0, 5, 2, 172, 16, 60]
abbrev dktX8_rise_2 : List UInt8 := dkwX8_rise_2 ++ dktX8_rise_3
def dkwX8_rise_1 : List UInt8 := [28, 2, 159, 0, 10, 28, 184, 1, 156, 153, 0, 17, 21, 4, 2, 159, 0, 17, 21, 4, 184, 1, 156]
abbrev dktX8_rise_1 : List UInt8 := dkwX8_rise_1 ++ dktX8_rise_2
def dkwX8_rise_0 : List UInt8 := [42, 3, 181, 0, 76, 28, 2, 160, 0, 7, 2, 167, 0, 4, 29, 54, 4, 27, 184, 1, 156, 153, 0, 29]
abbrev dktX8_rise_0 : List UInt8 := dkwX8_rise_0 ++ dktX8_rise_1
theorem dksX8_rise_0 : cX8_rise.data.toList.drop 0 = dktX8_rise_0 := by decide +kernel
theorem dksX8_rise_1 : cX8_rise.data.toList.drop 24 = dktX8_rise_1 := dk_seg dksX8_rise_0 24 rfl rfl
theorem dksX8_rise_2 : cX8_rise.data.toList.drop 47 = dktX8_rise_2 := dk_seg dksX8_rise_1 23 rfl rfl
theorem dksX8_rise_3 : cX8_rise.data.toList.drop 71 = dktX8_rise_3 := dk_seg dksX8_rise_2 24 rfl rfl
theorem dksX8_rise_4 : cX8_rise.data.toList.drop 94 = dktX8_rise_4 := dk_seg dksX8_rise_3 23 rfl rfl
theorem dksX8_rise_5 : cX8_rise.data.toList.drop 118 = dktX8_rise_5 := dk_seg dksX8_rise_4 24 rfl rfl
theorem dX8_rise_0 : decode cX8_rise 0 = .ok (.aload_n 0, 1) := dk_42 (dk_at dksX8_rise_0 0 rfl rfl)
theorem dX8_rise_1 : decode cX8_rise 1 = .ok (.iconst 0, 1) := dk_3 (dk_at dksX8_rise_0 1 rfl rfl)
theorem dX8_rise_2 : decode cX8_rise 2 = .ok (.putfield 76, 3) := dk_181 0 76 (dk_at dksX8_rise_0 2 rfl rfl)
theorem dX8_rise_5 : decode cX8_rise 5 = .ok (.iload_n 2, 1) := dk_28 (dk_at dksX8_rise_0 5 rfl rfl)
theorem dX8_rise_6 : decode cX8_rise 6 = .ok (.iconst (-1), 1) := dk_2 (dk_at dksX8_rise_0 6 rfl rfl)
theorem dX8_rise_7 : decode cX8_rise 7 = .ok (.if_icmp .ne 7, 3) := dk_160 0 7 (dk_at dksX8_rise_0 7 rfl rfl)
theorem dX8_rise_10 : decode cX8_rise 10 = .ok (.iconst (-1), 1) := dk_2 (dk_at dksX8_rise_0 10 rfl rfl)
theorem dX8_rise_11 : decode cX8_rise 11 = .ok (.goto 4, 3) := dk_167 0 4 (dk_at dksX8_rise_0 11 rfl rfl)
theorem dX8_rise_14 : decode cX8_rise 14 = .ok (.iload_n 3, 1) := dk_29 (dk_at dksX8_rise_0 14 rfl rfl)
theorem dX8_rise_15 : decode cX8_rise 15 = .ok (.istore 4, 2) := dk_54 4 (dk_at dksX8_rise_0 15 rfl rfl)
theorem dX8_rise_17 : decode cX8_rise 17 = .ok (.iload_n 1, 1) := dk_27 (dk_at dksX8_rise_0 17 rfl rfl)
theorem dX8_rise_18 : decode cX8_rise 18 = .ok (.invokestatic 412, 3) := dk_184 1 156 (dk_at dksX8_rise_0 18 rfl rfl)
theorem dX8_rise_21 : decode cX8_rise 21 = .ok (.ifCond .eq 29, 3) := dk_153 0 29 (dk_at dksX8_rise_0 21 rfl rfl)
theorem dX8_rise_24 : decode cX8_rise 24 = .ok (.iload_n 2, 1) := dk_28 (dk_at dksX8_rise_1 0 rfl rfl)
theorem dX8_rise_25 : decode cX8_rise 25 = .ok (.iconst (-1), 1) := dk_2 (dk_at dksX8_rise_1 1 rfl rfl)
theorem dX8_rise_26 : decode cX8_rise 26 = .ok (.if_icmp .eq 10, 3) := dk_159 0 10 (dk_at dksX8_rise_1 2 rfl rfl)
theorem dX8_rise_29 : decode cX8_rise 29 = .ok (.iload_n 2, 1) := dk_28 (dk_at dksX8_rise_1 5 rfl rfl)
theorem dX8_rise_30 : decode cX8_rise 30 = .ok (.invokestatic 412, 3) := dk_184 1 156 (dk_at dksX8_rise_1 6 rfl rfl)
theorem dX8_rise_33 : decode cX8_rise 33 = .ok (.ifCond .eq 17, 3) := dk_153 0 17 (dk_at dksX8_rise_1 9 rfl rfl)
theorem dX8_rise_36 : decode cX8_rise 36 = .ok (.iload 4, 2) := dk_21 4 (dk_at dksX8_rise_1 12 rfl rfl)
theorem dX8_rise_38 : decode cX8_rise 38 = .ok (.iconst (-1), 1) := dk_2 (dk_at dksX8_rise_1 14 rfl rfl)
theorem dX8_rise_39 : decode cX8_rise 39 = .ok (.if_icmp .eq 17, 3) := dk_159 0 17 (dk_at dksX8_rise_1 15 rfl rfl)
theorem dX8_rise_42 : decode cX8_rise 42 = .ok (.iload 4, 2) := dk_21 4 (dk_at dksX8_rise_1 18 rfl rfl)
theorem dX8_rise_44 : decode cX8_rise 44 = .ok (.invokestatic 412, 3) := dk_184 1 156 (dk_at dksX8_rise_1 20 rfl rfl)
theorem dX8_rise_47 : decode cX8_rise 47 = .ok (.ifCond .ne 9, 3) := dk_154 0 9 (dk_at dksX8_rise_2 0 rfl rfl)
theorem dX8_rise_50 : decode cX8_rise 50 = .ok (.aload_n 0, 1) := dk_42 (dk_at dksX8_rise_2 3 rfl rfl)
theorem dX8_rise_51 : decode cX8_rise 51 = .ok (.iconst 1, 1) := dk_4 (dk_at dksX8_rise_2 4 rfl rfl)
theorem dX8_rise_52 : decode cX8_rise 52 = .ok (.invokevirtual 83, 3) := dk_182 0 83 (dk_at dksX8_rise_2 5 rfl rfl)
theorem dX8_rise_55 : decode cX8_rise 55 = .ok (.ireturn, 1) := dk_172 (dk_at dksX8_rise_2 8 rfl rfl)
theorem dX8_rise_56 : decode cX8_rise 56 = .ok (.aload_n 0, 1) := dk_42 (dk_at dksX8_rise_2 9 rfl rfl)
theorem dX8_rise_57 : decode cX8_rise 57 = .ok (.getfield 9, 3) := dk_180 0 9 (dk_at dksX8_rise_2 10 rfl rfl)
theorem dX8_rise_60 : decode cX8_rise 60 = .ok (.iconst 4, 1) := dk_7 (dk_at dksX8_rise_2 13 rfl rfl)
theorem dX8_rise_61 : decode cX8_rise 61 = .ok (.iaload, 1) := dk_46 (dk_at dksX8_rise_2 14 rfl rfl)
theorem dX8_rise_62 : decode cX8_rise 62 = .ok (.bipush 6, 2) := dk_16 6 (dk_at dksX8_rise_2 15 rfl rfl)
theorem dX8_rise_64 : decode cX8_rise 64 = .ok (.if_icmp .ne 5, 3) := dk_160 0 5 (dk_at dksX8_rise_2 17 rfl rfl)
theorem dX8_rise_67 : decode cX8_rise 67 = .ok (.iconst (-1), 1) := dk_2 (dk_at dksX8_rise_2 20 rfl rfl)
theorem dX8_rise_68 : decode cX8_rise 68 = .ok (.ireturn, 1) := dk_172 (dk_at dksX8_rise_2 21 rfl rfl)
theorem dX8_rise_69 : decode cX8_rise 69 = .ok (.bipush 60, 2) := dk_16 60 (dk_at dksX8_rise_2 22 rfl rfl)
theorem dX8_rise_71 : decode cX8_rise 71 = .ok (.iconst 3, 1) := dk_6 (dk_at dksX8_rise_3 0 rfl rfl)
theorem dX8_rise_72 : decode cX8_rise 72 = .ok (.aload_n 0, 1) := dk_42 (dk_at dksX8_rise_3 1 rfl rfl)
theorem dX8_rise_73 : decode cX8_rise 73 = .ok (.getfield 9, 3) := dk_180 0 9 (dk_at dksX8_rise_3 2 rfl rfl)
theorem dX8_rise_76 : decode cX8_rise 76 = .ok (.iconst 4, 1) := dk_7 (dk_at dksX8_rise_3 5 rfl rfl)
theorem dX8_rise_77 : decode cX8_rise 77 = .ok (.iaload, 1) := dk_46 (dk_at dksX8_rise_3 6 rfl rfl)
theorem dX8_rise_78 : decode cX8_rise 78 = .ok (.imul, 1) := dk_104 (dk_at dksX8_rise_3 7 rfl rfl)
theorem dX8_rise_79 : decode cX8_rise 79 = .ok (.iadd, 1) := dk_96 (dk_at dksX8_rise_3 8 rfl rfl)
theorem dX8_rise_80 : decode cX8_rise 80 = .ok (.istore 5, 2) := dk_54 5 (dk_at dksX8_rise_3 9 rfl rfl)
theorem dX8_rise_82 : decode cX8_rise 82 = .ok (.aload_n 0, 1) := dk_42 (dk_at dksX8_rise_3 11 rfl rfl)
theorem dX8_rise_83 : decode cX8_rise 83 = .ok (.getfield 9, 3) := dk_180 0 9 (dk_at dksX8_rise_3 12 rfl rfl)
theorem dX8_rise_86 : decode cX8_rise 86 = .ok (.iload 5, 2) := dk_21 5 (dk_at dksX8_rise_3 15 rfl rfl)
theorem dX8_rise_88 : decode cX8_rise 88 = .ok (.iload_n 1, 1) := dk_27 (dk_at dksX8_rise_3 17 rfl rfl)
theorem dX8_rise_89 : decode cX8_rise 89 = .ok (.iastore, 1) := dk_79 (dk_at dksX8_rise_3 18 rfl rfl)
theorem dX8_rise_90 : decode cX8_rise 90 = .ok (.aload_n 0, 1) := dk_42 (dk_at dksX8_rise_3 19 rfl rfl)
theorem dX8_rise_91 : decode cX8_rise 91 = .ok (.getfield 9, 3) := dk_180 0 9 (dk_at dksX8_rise_3 20 rfl rfl)
theorem dX8_rise_94 : decode cX8_rise 94 = .ok (.iload 5, 2) := dk_21 5 (dk_at dksX8_rise_4 0 rfl rfl)
theorem dX8_rise_96 : decode cX8_rise 96 = .ok (.iconst 1, 1) := dk_4 (dk_at dksX8_rise_4 2 rfl rfl)
theorem dX8_rise_97 : decode cX8_rise 97 = .ok (.iadd, 1) := dk_96 (dk_at dksX8_rise_4 3 rfl rfl)
theorem dX8_rise_98 : decode cX8_rise 98 = .ok (.iload_n 2, 1) := dk_28 (dk_at dksX8_rise_4 4 rfl rfl)
theorem dX8_rise_99 : decode cX8_rise 99 = .ok (.iastore, 1) := dk_79 (dk_at dksX8_rise_4 5 rfl rfl)
theorem dX8_rise_100 : decode cX8_rise 100 = .ok (.aload_n 0, 1) := dk_42 (dk_at dksX8_rise_4 6 rfl rfl)
theorem dX8_rise_101 : decode cX8_rise 101 = .ok (.getfield 9, 3) := dk_180 0 9 (dk_at dksX8_rise_4 7 rfl rfl)
theorem dX8_rise_104 : decode cX8_rise 104 = .ok (.iload 5, 2) := dk_21 5 (dk_at dksX8_rise_4 10 rfl rfl)
theorem dX8_rise_106 : decode cX8_rise 106 = .ok (.iconst 2, 1) := dk_5 (dk_at dksX8_rise_4 12 rfl rfl)
theorem dX8_rise_107 : decode cX8_rise 107 = .ok (.iadd, 1) := dk_96 (dk_at dksX8_rise_4 13 rfl rfl)
theorem dX8_rise_108 : decode cX8_rise 108 = .ok (.iload 4, 2) := dk_21 4 (dk_at dksX8_rise_4 14 rfl rfl)
theorem dX8_rise_110 : decode cX8_rise 110 = .ok (.iastore, 1) := dk_79 (dk_at dksX8_rise_4 16 rfl rfl)
theorem dX8_rise_111 : decode cX8_rise 111 = .ok (.aload_n 0, 1) := dk_42 (dk_at dksX8_rise_4 17 rfl rfl)
theorem dX8_rise_112 : decode cX8_rise 112 = .ok (.getfield 9, 3) := dk_180 0 9 (dk_at dksX8_rise_4 18 rfl rfl)
theorem dX8_rise_115 : decode cX8_rise 115 = .ok (.iconst 4, 1) := dk_7 (dk_at dksX8_rise_4 21 rfl rfl)
theorem dX8_rise_116 : decode cX8_rise 116 = .ok (.dup2, 1) := dk_92 (dk_at dksX8_rise_4 22 rfl rfl)
theorem dX8_rise_117 : decode cX8_rise 117 = .ok (.iaload, 1) := dk_46 (dk_at dksX8_rise_4 23 rfl rfl)
theorem dX8_rise_118 : decode cX8_rise 118 = .ok (.iconst 1, 1) := dk_4 (dk_at dksX8_rise_5 0 rfl rfl)
theorem dX8_rise_119 : decode cX8_rise 119 = .ok (.iadd, 1) := dk_96 (dk_at dksX8_rise_5 1 rfl rfl)
theorem dX8_rise_120 : decode cX8_rise 120 = .ok (.iastore, 1) := dk_79 (dk_at dksX8_rise_5 2 rfl rfl)
theorem dX8_rise_121 : decode cX8_rise 121 = .ok (.aload_n 0, 1) := dk_42 (dk_at dksX8_rise_5 3 rfl rfl)
theorem dX8_rise_122 : decode cX8_rise 122 = .ok (.getfield 9, 3) := dk_180 0 9 (dk_at dksX8_rise_5 4 rfl rfl)
theorem dX8_rise_125 : decode cX8_rise 125 = .ok (.iconst 4, 1) := dk_7 (dk_at dksX8_rise_5 7 rfl rfl)
theorem dX8_rise_126 : decode cX8_rise 126 = .ok (.iaload, 1) := dk_46 (dk_at dksX8_rise_5 8 rfl rfl)
theorem dX8_rise_127 : decode cX8_rise 127 = .ok (.iconst 1, 1) := dk_4 (dk_at dksX8_rise_5 9 rfl rfl)
theorem dX8_rise_128 : decode cX8_rise 128 = .ok (.isub, 1) := dk_100 (dk_at dksX8_rise_5 10 rfl rfl)
theorem dX8_rise_129 : decode cX8_rise 129 = .ok (.ireturn, 1) := dk_172 (dk_at dksX8_rise_5 11 rfl rfl)
abbrev cX8_isLag : ByteArray := prog_29_method_93_code
def yX8_isLag : MethodName := ⟨RX8, "isLag", "(I)Z"⟩
def dkwX8_isLag_0 : List UInt8 := [26, 133, 9, 20, 0, 95, 184, 0, 79, 172]
abbrev dktX8_isLag_0 : List UInt8 := dkwX8_isLag_0 ++ []
theorem dksX8_isLag_0 : cX8_isLag.data.toList.drop 0 = dktX8_isLag_0 := by decide +kernel
theorem dX8_isLag_0 : decode cX8_isLag 0 = .ok (.iload_n 0, 1) := dk_26 (dk_at dksX8_isLag_0 0 rfl rfl)
theorem dX8_isLag_1 : decode cX8_isLag 1 = .ok (.i2l, 1) := dk_133 (dk_at dksX8_isLag_0 1 rfl rfl)
theorem dX8_isLag_2 : decode cX8_isLag 2 = .ok (.lconst 0, 1) := dk_9 (dk_at dksX8_isLag_0 2 rfl rfl)
theorem dX8_isLag_3 : decode cX8_isLag 3 = .ok (.ldc2_w 95, 3) := dk_20 0 95 (dk_at dksX8_isLag_0 3 rfl rfl)
theorem dX8_isLag_6 : decode cX8_isLag 6 = .ok (.invokestatic 79, 3) := dk_184 0 79 (dk_at dksX8_isLag_0 6 rfl rfl)
theorem dX8_isLag_9 : decode cX8_isLag 9 = .ok (.ireturn, 1) := dk_172 (dk_at dksX8_isLag_0 9 rfl rfl)
abbrev cX8_odds : ByteArray := prog_29_method_95_code
def yX8_odds : MethodName := ⟨RX8, "odds", "()V"⟩
def dkwX8_odds_3 : List UInt8 := [180, 0, 9, 21, 5, 46, 96, 46, 133, 105, 66, 132, 5, 1, 167, 255, 185, 42, 31, 33, 182, 1, 84, 177]
abbrev dktX8_odds_3 : List UInt8 := dkwX8_odds_3 ++ []
def dkwX8_odds_2 : List UInt8 := [16, 78, 42, 180, 0, 9, 21, 5, 46, 96, 46, 133, 105, 64, 33, 42, 180, 0, 9, 16, 99, 42]
abbrev dktX8_odds_2 : List UInt8 := dkwX8_odds_2 ++ dktX8_odds_3
def dkwX8_odds_1 : List UInt8 := [104, 96, 162, 0, 61, 42, 180, 0, 9, 21, 5, 46, 2, 160, 0, 6, 167, 0, 41, 31, 42, 180, 0, 9]
abbrev dktX8_odds_1 : List UInt8 := dkwX8_odds_1 ++ dktX8_odds_2
def dkwX8_odds_0 : List UInt8 := [42, 3, 181, 0, 76, 10, 64, 10, 66, 16, 60, 54, 5, 21, 5, 16, 60, 6, 42, 180, 0, 9, 7, 46]
abbrev dktX8_odds_0 : List UInt8 := dkwX8_odds_0 ++ dktX8_odds_1
theorem dksX8_odds_0 : cX8_odds.data.toList.drop 0 = dktX8_odds_0 := by decide +kernel
theorem dksX8_odds_1 : cX8_odds.data.toList.drop 24 = dktX8_odds_1 := dk_seg dksX8_odds_0 24 rfl rfl
theorem dksX8_odds_2 : cX8_odds.data.toList.drop 48 = dktX8_odds_2 := dk_seg dksX8_odds_1 24 rfl rfl
theorem dksX8_odds_3 : cX8_odds.data.toList.drop 70 = dktX8_odds_3 := dk_seg dksX8_odds_2 22 rfl rfl
theorem dX8_odds_0 : decode cX8_odds 0 = .ok (.aload_n 0, 1) := dk_42 (dk_at dksX8_odds_0 0 rfl rfl)
theorem dX8_odds_1 : decode cX8_odds 1 = .ok (.iconst 0, 1) := dk_3 (dk_at dksX8_odds_0 1 rfl rfl)
theorem dX8_odds_2 : decode cX8_odds 2 = .ok (.putfield 76, 3) := dk_181 0 76 (dk_at dksX8_odds_0 2 rfl rfl)
theorem dX8_odds_5 : decode cX8_odds 5 = .ok (.lconst 1, 1) := dk_10 (dk_at dksX8_odds_0 5 rfl rfl)
theorem dX8_odds_6 : decode cX8_odds 6 = .ok (.lstore_n 1, 1) := dk_64 (dk_at dksX8_odds_0 6 rfl rfl)
theorem dX8_odds_7 : decode cX8_odds 7 = .ok (.lconst 1, 1) := dk_10 (dk_at dksX8_odds_0 7 rfl rfl)
theorem dX8_odds_8 : decode cX8_odds 8 = .ok (.lstore_n 3, 1) := dk_66 (dk_at dksX8_odds_0 8 rfl rfl)
theorem dX8_odds_9 : decode cX8_odds 9 = .ok (.bipush 60, 2) := dk_16 60 (dk_at dksX8_odds_0 9 rfl rfl)
theorem dX8_odds_11 : decode cX8_odds 11 = .ok (.istore 5, 2) := dk_54 5 (dk_at dksX8_odds_0 11 rfl rfl)
theorem dX8_odds_13 : decode cX8_odds 13 = .ok (.iload 5, 2) := dk_21 5 (dk_at dksX8_odds_0 13 rfl rfl)
theorem dX8_odds_15 : decode cX8_odds 15 = .ok (.bipush 60, 2) := dk_16 60 (dk_at dksX8_odds_0 15 rfl rfl)
theorem dX8_odds_17 : decode cX8_odds 17 = .ok (.iconst 3, 1) := dk_6 (dk_at dksX8_odds_0 17 rfl rfl)
theorem dX8_odds_18 : decode cX8_odds 18 = .ok (.aload_n 0, 1) := dk_42 (dk_at dksX8_odds_0 18 rfl rfl)
theorem dX8_odds_19 : decode cX8_odds 19 = .ok (.getfield 9, 3) := dk_180 0 9 (dk_at dksX8_odds_0 19 rfl rfl)
theorem dX8_odds_22 : decode cX8_odds 22 = .ok (.iconst 4, 1) := dk_7 (dk_at dksX8_odds_0 22 rfl rfl)
theorem dX8_odds_23 : decode cX8_odds 23 = .ok (.iaload, 1) := dk_46 (dk_at dksX8_odds_0 23 rfl rfl)
theorem dX8_odds_24 : decode cX8_odds 24 = .ok (.imul, 1) := dk_104 (dk_at dksX8_odds_1 0 rfl rfl)
theorem dX8_odds_25 : decode cX8_odds 25 = .ok (.iadd, 1) := dk_96 (dk_at dksX8_odds_1 1 rfl rfl)
theorem dX8_odds_26 : decode cX8_odds 26 = .ok (.if_icmp .ge 61, 3) := dk_162 0 61 (dk_at dksX8_odds_1 2 rfl rfl)
theorem dX8_odds_29 : decode cX8_odds 29 = .ok (.aload_n 0, 1) := dk_42 (dk_at dksX8_odds_1 5 rfl rfl)
theorem dX8_odds_30 : decode cX8_odds 30 = .ok (.getfield 9, 3) := dk_180 0 9 (dk_at dksX8_odds_1 6 rfl rfl)
theorem dX8_odds_33 : decode cX8_odds 33 = .ok (.iload 5, 2) := dk_21 5 (dk_at dksX8_odds_1 9 rfl rfl)
theorem dX8_odds_35 : decode cX8_odds 35 = .ok (.iaload, 1) := dk_46 (dk_at dksX8_odds_1 11 rfl rfl)
theorem dX8_odds_36 : decode cX8_odds 36 = .ok (.iconst (-1), 1) := dk_2 (dk_at dksX8_odds_1 12 rfl rfl)
theorem dX8_odds_37 : decode cX8_odds 37 = .ok (.if_icmp .ne 6, 3) := dk_160 0 6 (dk_at dksX8_odds_1 13 rfl rfl)
theorem dX8_odds_40 : decode cX8_odds 40 = .ok (.goto 41, 3) := dk_167 0 41 (dk_at dksX8_odds_1 16 rfl rfl)
theorem dX8_odds_43 : decode cX8_odds 43 = .ok (.lload_n 1, 1) := dk_31 (dk_at dksX8_odds_1 19 rfl rfl)
theorem dX8_odds_44 : decode cX8_odds 44 = .ok (.aload_n 0, 1) := dk_42 (dk_at dksX8_odds_1 20 rfl rfl)
theorem dX8_odds_45 : decode cX8_odds 45 = .ok (.getfield 9, 3) := dk_180 0 9 (dk_at dksX8_odds_1 21 rfl rfl)
theorem dX8_odds_48 : decode cX8_odds 48 = .ok (.bipush 78, 2) := dk_16 78 (dk_at dksX8_odds_2 0 rfl rfl)
theorem dX8_odds_50 : decode cX8_odds 50 = .ok (.aload_n 0, 1) := dk_42 (dk_at dksX8_odds_2 2 rfl rfl)
theorem dX8_odds_51 : decode cX8_odds 51 = .ok (.getfield 9, 3) := dk_180 0 9 (dk_at dksX8_odds_2 3 rfl rfl)
theorem dX8_odds_54 : decode cX8_odds 54 = .ok (.iload 5, 2) := dk_21 5 (dk_at dksX8_odds_2 6 rfl rfl)
theorem dX8_odds_56 : decode cX8_odds 56 = .ok (.iaload, 1) := dk_46 (dk_at dksX8_odds_2 8 rfl rfl)
theorem dX8_odds_57 : decode cX8_odds 57 = .ok (.iadd, 1) := dk_96 (dk_at dksX8_odds_2 9 rfl rfl)
theorem dX8_odds_58 : decode cX8_odds 58 = .ok (.iaload, 1) := dk_46 (dk_at dksX8_odds_2 10 rfl rfl)
theorem dX8_odds_59 : decode cX8_odds 59 = .ok (.i2l, 1) := dk_133 (dk_at dksX8_odds_2 11 rfl rfl)
theorem dX8_odds_60 : decode cX8_odds 60 = .ok (.lmul, 1) := dk_105 (dk_at dksX8_odds_2 12 rfl rfl)
theorem dX8_odds_61 : decode cX8_odds 61 = .ok (.lstore_n 1, 1) := dk_64 (dk_at dksX8_odds_2 13 rfl rfl)
theorem dX8_odds_62 : decode cX8_odds 62 = .ok (.lload_n 3, 1) := dk_33 (dk_at dksX8_odds_2 14 rfl rfl)
theorem dX8_odds_63 : decode cX8_odds 63 = .ok (.aload_n 0, 1) := dk_42 (dk_at dksX8_odds_2 15 rfl rfl)
theorem dX8_odds_64 : decode cX8_odds 64 = .ok (.getfield 9, 3) := dk_180 0 9 (dk_at dksX8_odds_2 16 rfl rfl)
theorem dX8_odds_67 : decode cX8_odds 67 = .ok (.bipush 99, 2) := dk_16 99 (dk_at dksX8_odds_2 19 rfl rfl)
theorem dX8_odds_69 : decode cX8_odds 69 = .ok (.aload_n 0, 1) := dk_42 (dk_at dksX8_odds_2 21 rfl rfl)
theorem dX8_odds_70 : decode cX8_odds 70 = .ok (.getfield 9, 3) := dk_180 0 9 (dk_at dksX8_odds_3 0 rfl rfl)
theorem dX8_odds_73 : decode cX8_odds 73 = .ok (.iload 5, 2) := dk_21 5 (dk_at dksX8_odds_3 3 rfl rfl)
theorem dX8_odds_75 : decode cX8_odds 75 = .ok (.iaload, 1) := dk_46 (dk_at dksX8_odds_3 5 rfl rfl)
theorem dX8_odds_76 : decode cX8_odds 76 = .ok (.iadd, 1) := dk_96 (dk_at dksX8_odds_3 6 rfl rfl)
theorem dX8_odds_77 : decode cX8_odds 77 = .ok (.iaload, 1) := dk_46 (dk_at dksX8_odds_3 7 rfl rfl)
theorem dX8_odds_78 : decode cX8_odds 78 = .ok (.i2l, 1) := dk_133 (dk_at dksX8_odds_3 8 rfl rfl)
theorem dX8_odds_79 : decode cX8_odds 79 = .ok (.lmul, 1) := dk_105 (dk_at dksX8_odds_3 9 rfl rfl)
theorem dX8_odds_80 : decode cX8_odds 80 = .ok (.lstore_n 3, 1) := dk_66 (dk_at dksX8_odds_3 10 rfl rfl)
theorem dX8_odds_81 : decode cX8_odds 81 = .ok (.iinc 5 1, 3) := dk_132 5 1 (dk_at dksX8_odds_3 11 rfl rfl)
theorem dX8_odds_84 : decode cX8_odds 84 = .ok (.goto (-71), 3) := dk_167 255 185 (dk_at dksX8_odds_3 14 rfl rfl)
theorem dX8_odds_87 : decode cX8_odds 87 = .ok (.aload_n 0, 1) := dk_42 (dk_at dksX8_odds_3 17 rfl rfl)
theorem dX8_odds_88 : decode cX8_odds 88 = .ok (.lload_n 1, 1) := dk_31 (dk_at dksX8_odds_3 18 rfl rfl)
theorem dX8_odds_89 : decode cX8_odds 89 = .ok (.lload_n 3, 1) := dk_33 (dk_at dksX8_odds_3 19 rfl rfl)
theorem dX8_odds_90 : decode cX8_odds 90 = .ok (.invokevirtual 340, 3) := dk_182 1 84 (dk_at dksX8_odds_3 20 rfl rfl)
theorem dX8_odds_93 : decode cX8_odds 93 = .ok (.return_, 1) := dk_177 (dk_at dksX8_odds_3 23 rfl rfl)
abbrev cX8_fill : ByteArray := prog_29_method_97_code
def yX8_fill : MethodName := ⟨RX8, "fill", "(IIII)I"⟩
def dkwX8_fill_10 : List UInt8 := [160, 0, 9, 21, 7, 21, 5, 100, 172, 21, 7, 4, 100, 54, 5, 132, 6, 1, 167, 255, 167]
abbrev dktX8_fill_10 : List UInt8 := dkwX8_fill_10 ++ []
def dkwX8_fill_9 : List UInt8 := [16, 13, 21, 6, 104, 21, 5, 96, 46, 159, 0, 9, 132, 7, 1, 167, 255, 200, 21, 6, 21, 4]
abbrev dktX8_fill_9 : List UInt8 := dkwX8_fill_9 ++ dktX8_fill_10
def dkwX8_fill_8 : List UInt8 := [136, 104, 42, 180, 0, 64, 16, 13, 21, 6, 4, 96, 104, 21, 7, 96, 4, 100, 46, 96, 42, 180, 0, 64]
abbrev dktX8_fill_8 : List UInt8 := dkwX8_fill_8 ++ dktX8_fill_9
def dkwX8_fill_7 : List UInt8 := [21, 5, 184, 1, 5, 54, 7, 21, 7, 21, 5, 100, 42, 180, 0, 73, 16, 28, 27, 104, 21, 6, 96, 47]
abbrev dktX8_fill_7 : List UInt8 := dkwX8_fill_7 ++ dktX8_fill_8
def dkwX8_fill_6 : List UInt8 := [180, 0, 70, 27, 46, 4, 100, 133, 184, 0, 79, 154, 0, 5, 2, 172, 29, 54, 5, 3, 54, 6, 4]
abbrev dktX8_fill_6 : List UInt8 := dkwX8_fill_6 ++ dktX8_fill_7
def dkwX8_fill_5 : List UInt8 := [42, 27, 28, 182, 1, 161, 21, 4, 2, 160, 0, 10, 42, 180, 0, 64, 29, 46, 172, 21, 4, 133, 9, 42]
abbrev dktX8_fill_5 : List UInt8 := dkwX8_fill_5 ++ dktX8_fill_6
def dkwX8_fill_4 : List UInt8 := [96, 47, 9, 20, 0, 87, 184, 0, 79, 154, 0, 9, 42, 6, 182, 0, 83, 172, 132, 5, 1, 167, 255, 214]
abbrev dktX8_fill_4 : List UInt8 := dkwX8_fill_4 ++ dktX8_fill_5
def dkwX8_fill_3 : List UInt8 := [3, 54, 5, 21, 5, 42, 180, 0, 70, 27, 46, 162, 0, 37, 42, 180, 0, 73, 16, 28, 27, 104, 21, 5]
abbrev dktX8_fill_3 : List UInt8 := dkwX8_fill_3 ++ dktX8_fill_4
def dkwX8_fill_2 : List UInt8 := [9, 28, 133, 184, 0, 79, 153, 0, 12, 42, 180, 0, 70, 27, 46, 154, 0, 9, 42, 6, 182, 0, 83, 172]
abbrev dktX8_fill_2 : List UInt8 := dkwX8_fill_2 ++ dktX8_fill_3
def dkwX8_fill_1 : List UInt8 := [2, 160, 0, 9, 42, 5, 182, 0, 83, 172, 28, 133, 10, 20, 1, 159, 184, 0, 79, 153, 0, 23, 29, 133]
abbrev dktX8_fill_1 : List UInt8 := dkwX8_fill_1 ++ dktX8_fill_2
def dkwX8_fill_0 : List UInt8 := [42, 3, 181, 0, 76, 27, 184, 1, 151, 154, 0, 9, 42, 4, 182, 0, 83, 172, 42, 180, 0, 67, 27, 46]
abbrev dktX8_fill_0 : List UInt8 := dkwX8_fill_0 ++ dktX8_fill_1
theorem dksX8_fill_0 : cX8_fill.data.toList.drop 0 = dktX8_fill_0 := by decide +kernel
theorem dksX8_fill_1 : cX8_fill.data.toList.drop 24 = dktX8_fill_1 := dk_seg dksX8_fill_0 24 rfl rfl
theorem dksX8_fill_2 : cX8_fill.data.toList.drop 48 = dktX8_fill_2 := dk_seg dksX8_fill_1 24 rfl rfl
theorem dksX8_fill_3 : cX8_fill.data.toList.drop 72 = dktX8_fill_3 := dk_seg dksX8_fill_2 24 rfl rfl
theorem dksX8_fill_4 : cX8_fill.data.toList.drop 96 = dktX8_fill_4 := dk_seg dksX8_fill_3 24 rfl rfl
theorem dksX8_fill_5 : cX8_fill.data.toList.drop 120 = dktX8_fill_5 := dk_seg dksX8_fill_4 24 rfl rfl
theorem dksX8_fill_6 : cX8_fill.data.toList.drop 144 = dktX8_fill_6 := dk_seg dksX8_fill_5 24 rfl rfl
theorem dksX8_fill_7 : cX8_fill.data.toList.drop 167 = dktX8_fill_7 := dk_seg dksX8_fill_6 23 rfl rfl
theorem dksX8_fill_8 : cX8_fill.data.toList.drop 191 = dktX8_fill_8 := dk_seg dksX8_fill_7 24 rfl rfl
theorem dksX8_fill_9 : cX8_fill.data.toList.drop 215 = dktX8_fill_9 := dk_seg dksX8_fill_8 24 rfl rfl
theorem dksX8_fill_10 : cX8_fill.data.toList.drop 237 = dktX8_fill_10 := dk_seg dksX8_fill_9 22 rfl rfl
theorem dX8_fill_0 : decode cX8_fill 0 = .ok (.aload_n 0, 1) := dk_42 (dk_at dksX8_fill_0 0 rfl rfl)
theorem dX8_fill_1 : decode cX8_fill 1 = .ok (.iconst 0, 1) := dk_3 (dk_at dksX8_fill_0 1 rfl rfl)
theorem dX8_fill_2 : decode cX8_fill 2 = .ok (.putfield 76, 3) := dk_181 0 76 (dk_at dksX8_fill_0 2 rfl rfl)
theorem dX8_fill_5 : decode cX8_fill 5 = .ok (.iload_n 1, 1) := dk_27 (dk_at dksX8_fill_0 5 rfl rfl)
theorem dX8_fill_6 : decode cX8_fill 6 = .ok (.invokestatic 407, 3) := dk_184 1 151 (dk_at dksX8_fill_0 6 rfl rfl)
theorem dX8_fill_9 : decode cX8_fill 9 = .ok (.ifCond .ne 9, 3) := dk_154 0 9 (dk_at dksX8_fill_0 9 rfl rfl)
theorem dX8_fill_12 : decode cX8_fill 12 = .ok (.aload_n 0, 1) := dk_42 (dk_at dksX8_fill_0 12 rfl rfl)
theorem dX8_fill_13 : decode cX8_fill 13 = .ok (.iconst 1, 1) := dk_4 (dk_at dksX8_fill_0 13 rfl rfl)
theorem dX8_fill_14 : decode cX8_fill 14 = .ok (.invokevirtual 83, 3) := dk_182 0 83 (dk_at dksX8_fill_0 14 rfl rfl)
theorem dX8_fill_17 : decode cX8_fill 17 = .ok (.ireturn, 1) := dk_172 (dk_at dksX8_fill_0 17 rfl rfl)
theorem dX8_fill_18 : decode cX8_fill 18 = .ok (.aload_n 0, 1) := dk_42 (dk_at dksX8_fill_0 18 rfl rfl)
theorem dX8_fill_19 : decode cX8_fill 19 = .ok (.getfield 67, 3) := dk_180 0 67 (dk_at dksX8_fill_0 19 rfl rfl)
theorem dX8_fill_22 : decode cX8_fill 22 = .ok (.iload_n 1, 1) := dk_27 (dk_at dksX8_fill_0 22 rfl rfl)
theorem dX8_fill_23 : decode cX8_fill 23 = .ok (.iaload, 1) := dk_46 (dk_at dksX8_fill_0 23 rfl rfl)
theorem dX8_fill_24 : decode cX8_fill 24 = .ok (.iconst (-1), 1) := dk_2 (dk_at dksX8_fill_1 0 rfl rfl)
theorem dX8_fill_25 : decode cX8_fill 25 = .ok (.if_icmp .ne 9, 3) := dk_160 0 9 (dk_at dksX8_fill_1 1 rfl rfl)
theorem dX8_fill_28 : decode cX8_fill 28 = .ok (.aload_n 0, 1) := dk_42 (dk_at dksX8_fill_1 4 rfl rfl)
theorem dX8_fill_29 : decode cX8_fill 29 = .ok (.iconst 2, 1) := dk_5 (dk_at dksX8_fill_1 5 rfl rfl)
theorem dX8_fill_30 : decode cX8_fill 30 = .ok (.invokevirtual 83, 3) := dk_182 0 83 (dk_at dksX8_fill_1 6 rfl rfl)
theorem dX8_fill_33 : decode cX8_fill 33 = .ok (.ireturn, 1) := dk_172 (dk_at dksX8_fill_1 9 rfl rfl)
theorem dX8_fill_34 : decode cX8_fill 34 = .ok (.iload_n 2, 1) := dk_28 (dk_at dksX8_fill_1 10 rfl rfl)
theorem dX8_fill_35 : decode cX8_fill 35 = .ok (.i2l, 1) := dk_133 (dk_at dksX8_fill_1 11 rfl rfl)
theorem dX8_fill_36 : decode cX8_fill 36 = .ok (.lconst 1, 1) := dk_10 (dk_at dksX8_fill_1 12 rfl rfl)
theorem dX8_fill_37 : decode cX8_fill 37 = .ok (.ldc2_w 415, 3) := dk_20 1 159 (dk_at dksX8_fill_1 13 rfl rfl)
theorem dX8_fill_40 : decode cX8_fill 40 = .ok (.invokestatic 79, 3) := dk_184 0 79 (dk_at dksX8_fill_1 16 rfl rfl)
theorem dX8_fill_43 : decode cX8_fill 43 = .ok (.ifCond .eq 23, 3) := dk_153 0 23 (dk_at dksX8_fill_1 19 rfl rfl)
theorem dX8_fill_46 : decode cX8_fill 46 = .ok (.iload_n 3, 1) := dk_29 (dk_at dksX8_fill_1 22 rfl rfl)
theorem dX8_fill_47 : decode cX8_fill 47 = .ok (.i2l, 1) := dk_133 (dk_at dksX8_fill_1 23 rfl rfl)
theorem dX8_fill_48 : decode cX8_fill 48 = .ok (.lconst 0, 1) := dk_9 (dk_at dksX8_fill_2 0 rfl rfl)
theorem dX8_fill_49 : decode cX8_fill 49 = .ok (.iload_n 2, 1) := dk_28 (dk_at dksX8_fill_2 1 rfl rfl)
theorem dX8_fill_50 : decode cX8_fill 50 = .ok (.i2l, 1) := dk_133 (dk_at dksX8_fill_2 2 rfl rfl)
theorem dX8_fill_51 : decode cX8_fill 51 = .ok (.invokestatic 79, 3) := dk_184 0 79 (dk_at dksX8_fill_2 3 rfl rfl)
theorem dX8_fill_54 : decode cX8_fill 54 = .ok (.ifCond .eq 12, 3) := dk_153 0 12 (dk_at dksX8_fill_2 6 rfl rfl)
theorem dX8_fill_57 : decode cX8_fill 57 = .ok (.aload_n 0, 1) := dk_42 (dk_at dksX8_fill_2 9 rfl rfl)
theorem dX8_fill_58 : decode cX8_fill 58 = .ok (.getfield 70, 3) := dk_180 0 70 (dk_at dksX8_fill_2 10 rfl rfl)
theorem dX8_fill_61 : decode cX8_fill 61 = .ok (.iload_n 1, 1) := dk_27 (dk_at dksX8_fill_2 13 rfl rfl)
theorem dX8_fill_62 : decode cX8_fill 62 = .ok (.iaload, 1) := dk_46 (dk_at dksX8_fill_2 14 rfl rfl)
theorem dX8_fill_63 : decode cX8_fill 63 = .ok (.ifCond .ne 9, 3) := dk_154 0 9 (dk_at dksX8_fill_2 15 rfl rfl)
theorem dX8_fill_66 : decode cX8_fill 66 = .ok (.aload_n 0, 1) := dk_42 (dk_at dksX8_fill_2 18 rfl rfl)
theorem dX8_fill_67 : decode cX8_fill 67 = .ok (.iconst 3, 1) := dk_6 (dk_at dksX8_fill_2 19 rfl rfl)
theorem dX8_fill_68 : decode cX8_fill 68 = .ok (.invokevirtual 83, 3) := dk_182 0 83 (dk_at dksX8_fill_2 20 rfl rfl)
theorem dX8_fill_71 : decode cX8_fill 71 = .ok (.ireturn, 1) := dk_172 (dk_at dksX8_fill_2 23 rfl rfl)
theorem dX8_fill_72 : decode cX8_fill 72 = .ok (.iconst 0, 1) := dk_3 (dk_at dksX8_fill_3 0 rfl rfl)
theorem dX8_fill_73 : decode cX8_fill 73 = .ok (.istore 5, 2) := dk_54 5 (dk_at dksX8_fill_3 1 rfl rfl)
theorem dX8_fill_75 : decode cX8_fill 75 = .ok (.iload 5, 2) := dk_21 5 (dk_at dksX8_fill_3 3 rfl rfl)
theorem dX8_fill_77 : decode cX8_fill 77 = .ok (.aload_n 0, 1) := dk_42 (dk_at dksX8_fill_3 5 rfl rfl)
theorem dX8_fill_78 : decode cX8_fill 78 = .ok (.getfield 70, 3) := dk_180 0 70 (dk_at dksX8_fill_3 6 rfl rfl)
theorem dX8_fill_81 : decode cX8_fill 81 = .ok (.iload_n 1, 1) := dk_27 (dk_at dksX8_fill_3 9 rfl rfl)
theorem dX8_fill_82 : decode cX8_fill 82 = .ok (.iaload, 1) := dk_46 (dk_at dksX8_fill_3 10 rfl rfl)
theorem dX8_fill_83 : decode cX8_fill 83 = .ok (.if_icmp .ge 37, 3) := dk_162 0 37 (dk_at dksX8_fill_3 11 rfl rfl)
theorem dX8_fill_86 : decode cX8_fill 86 = .ok (.aload_n 0, 1) := dk_42 (dk_at dksX8_fill_3 14 rfl rfl)
theorem dX8_fill_87 : decode cX8_fill 87 = .ok (.getfield 73, 3) := dk_180 0 73 (dk_at dksX8_fill_3 15 rfl rfl)
theorem dX8_fill_90 : decode cX8_fill 90 = .ok (.bipush 28, 2) := dk_16 28 (dk_at dksX8_fill_3 18 rfl rfl)
theorem dX8_fill_92 : decode cX8_fill 92 = .ok (.iload_n 1, 1) := dk_27 (dk_at dksX8_fill_3 20 rfl rfl)
theorem dX8_fill_93 : decode cX8_fill 93 = .ok (.imul, 1) := dk_104 (dk_at dksX8_fill_3 21 rfl rfl)
theorem dX8_fill_94 : decode cX8_fill 94 = .ok (.iload 5, 2) := dk_21 5 (dk_at dksX8_fill_3 22 rfl rfl)
theorem dX8_fill_96 : decode cX8_fill 96 = .ok (.iadd, 1) := dk_96 (dk_at dksX8_fill_4 0 rfl rfl)
theorem dX8_fill_97 : decode cX8_fill 97 = .ok (.laload, 1) := dk_47 (dk_at dksX8_fill_4 1 rfl rfl)
theorem dX8_fill_98 : decode cX8_fill 98 = .ok (.lconst 0, 1) := dk_9 (dk_at dksX8_fill_4 2 rfl rfl)
theorem dX8_fill_99 : decode cX8_fill 99 = .ok (.ldc2_w 87, 3) := dk_20 0 87 (dk_at dksX8_fill_4 3 rfl rfl)
theorem dX8_fill_102 : decode cX8_fill 102 = .ok (.invokestatic 79, 3) := dk_184 0 79 (dk_at dksX8_fill_4 6 rfl rfl)
theorem dX8_fill_105 : decode cX8_fill 105 = .ok (.ifCond .ne 9, 3) := dk_154 0 9 (dk_at dksX8_fill_4 9 rfl rfl)
theorem dX8_fill_108 : decode cX8_fill 108 = .ok (.aload_n 0, 1) := dk_42 (dk_at dksX8_fill_4 12 rfl rfl)
theorem dX8_fill_109 : decode cX8_fill 109 = .ok (.iconst 3, 1) := dk_6 (dk_at dksX8_fill_4 13 rfl rfl)
theorem dX8_fill_110 : decode cX8_fill 110 = .ok (.invokevirtual 83, 3) := dk_182 0 83 (dk_at dksX8_fill_4 14 rfl rfl)
theorem dX8_fill_113 : decode cX8_fill 113 = .ok (.ireturn, 1) := dk_172 (dk_at dksX8_fill_4 17 rfl rfl)
theorem dX8_fill_114 : decode cX8_fill 114 = .ok (.iinc 5 1, 3) := dk_132 5 1 (dk_at dksX8_fill_4 18 rfl rfl)
theorem dX8_fill_117 : decode cX8_fill 117 = .ok (.goto (-42), 3) := dk_167 255 214 (dk_at dksX8_fill_4 21 rfl rfl)
theorem dX8_fill_120 : decode cX8_fill 120 = .ok (.aload_n 0, 1) := dk_42 (dk_at dksX8_fill_5 0 rfl rfl)
theorem dX8_fill_121 : decode cX8_fill 121 = .ok (.iload_n 1, 1) := dk_27 (dk_at dksX8_fill_5 1 rfl rfl)
theorem dX8_fill_122 : decode cX8_fill 122 = .ok (.iload_n 2, 1) := dk_28 (dk_at dksX8_fill_5 2 rfl rfl)
theorem dX8_fill_123 : decode cX8_fill 123 = .ok (.invokevirtual 417, 3) := dk_182 1 161 (dk_at dksX8_fill_5 3 rfl rfl)
theorem dX8_fill_126 : decode cX8_fill 126 = .ok (.iload 4, 2) := dk_21 4 (dk_at dksX8_fill_5 6 rfl rfl)
theorem dX8_fill_128 : decode cX8_fill 128 = .ok (.iconst (-1), 1) := dk_2 (dk_at dksX8_fill_5 8 rfl rfl)
theorem dX8_fill_129 : decode cX8_fill 129 = .ok (.if_icmp .ne 10, 3) := dk_160 0 10 (dk_at dksX8_fill_5 9 rfl rfl)
theorem dX8_fill_132 : decode cX8_fill 132 = .ok (.aload_n 0, 1) := dk_42 (dk_at dksX8_fill_5 12 rfl rfl)
theorem dX8_fill_133 : decode cX8_fill 133 = .ok (.getfield 64, 3) := dk_180 0 64 (dk_at dksX8_fill_5 13 rfl rfl)
theorem dX8_fill_136 : decode cX8_fill 136 = .ok (.iload_n 3, 1) := dk_29 (dk_at dksX8_fill_5 16 rfl rfl)
theorem dX8_fill_137 : decode cX8_fill 137 = .ok (.iaload, 1) := dk_46 (dk_at dksX8_fill_5 17 rfl rfl)
theorem dX8_fill_138 : decode cX8_fill 138 = .ok (.ireturn, 1) := dk_172 (dk_at dksX8_fill_5 18 rfl rfl)
theorem dX8_fill_139 : decode cX8_fill 139 = .ok (.iload 4, 2) := dk_21 4 (dk_at dksX8_fill_5 19 rfl rfl)
theorem dX8_fill_141 : decode cX8_fill 141 = .ok (.i2l, 1) := dk_133 (dk_at dksX8_fill_5 21 rfl rfl)
theorem dX8_fill_142 : decode cX8_fill 142 = .ok (.lconst 0, 1) := dk_9 (dk_at dksX8_fill_5 22 rfl rfl)
theorem dX8_fill_143 : decode cX8_fill 143 = .ok (.aload_n 0, 1) := dk_42 (dk_at dksX8_fill_5 23 rfl rfl)
theorem dX8_fill_144 : decode cX8_fill 144 = .ok (.getfield 70, 3) := dk_180 0 70 (dk_at dksX8_fill_6 0 rfl rfl)
theorem dX8_fill_147 : decode cX8_fill 147 = .ok (.iload_n 1, 1) := dk_27 (dk_at dksX8_fill_6 3 rfl rfl)
theorem dX8_fill_148 : decode cX8_fill 148 = .ok (.iaload, 1) := dk_46 (dk_at dksX8_fill_6 4 rfl rfl)
theorem dX8_fill_149 : decode cX8_fill 149 = .ok (.iconst 1, 1) := dk_4 (dk_at dksX8_fill_6 5 rfl rfl)
theorem dX8_fill_150 : decode cX8_fill 150 = .ok (.isub, 1) := dk_100 (dk_at dksX8_fill_6 6 rfl rfl)
theorem dX8_fill_151 : decode cX8_fill 151 = .ok (.i2l, 1) := dk_133 (dk_at dksX8_fill_6 7 rfl rfl)
theorem dX8_fill_152 : decode cX8_fill 152 = .ok (.invokestatic 79, 3) := dk_184 0 79 (dk_at dksX8_fill_6 8 rfl rfl)
theorem dX8_fill_155 : decode cX8_fill 155 = .ok (.ifCond .ne 5, 3) := dk_154 0 5 (dk_at dksX8_fill_6 11 rfl rfl)
theorem dX8_fill_158 : decode cX8_fill 158 = .ok (.iconst (-1), 1) := dk_2 (dk_at dksX8_fill_6 14 rfl rfl)
theorem dX8_fill_159 : decode cX8_fill 159 = .ok (.ireturn, 1) := dk_172 (dk_at dksX8_fill_6 15 rfl rfl)
theorem dX8_fill_160 : decode cX8_fill 160 = .ok (.iload_n 3, 1) := dk_29 (dk_at dksX8_fill_6 16 rfl rfl)
theorem dX8_fill_161 : decode cX8_fill 161 = .ok (.istore 5, 2) := dk_54 5 (dk_at dksX8_fill_6 17 rfl rfl)
theorem dX8_fill_163 : decode cX8_fill 163 = .ok (.iconst 0, 1) := dk_3 (dk_at dksX8_fill_6 19 rfl rfl)
theorem dX8_fill_164 : decode cX8_fill 164 = .ok (.istore 6, 2) := dk_54 6 (dk_at dksX8_fill_6 20 rfl rfl)
theorem dX8_fill_166 : decode cX8_fill 166 = .ok (.iconst 1, 1) := dk_4 (dk_at dksX8_fill_6 22 rfl rfl)
theorem dX8_fill_167 : decode cX8_fill 167 = .ok (.iload 5, 2) := dk_21 5 (dk_at dksX8_fill_7 0 rfl rfl)
theorem dX8_fill_169 : decode cX8_fill 169 = .ok (.invokestatic 261, 3) := dk_184 1 5 (dk_at dksX8_fill_7 2 rfl rfl)
theorem dX8_fill_172 : decode cX8_fill 172 = .ok (.istore 7, 2) := dk_54 7 (dk_at dksX8_fill_7 5 rfl rfl)
theorem dX8_fill_174 : decode cX8_fill 174 = .ok (.iload 7, 2) := dk_21 7 (dk_at dksX8_fill_7 7 rfl rfl)
theorem dX8_fill_176 : decode cX8_fill 176 = .ok (.iload 5, 2) := dk_21 5 (dk_at dksX8_fill_7 9 rfl rfl)
theorem dX8_fill_178 : decode cX8_fill 178 = .ok (.isub, 1) := dk_100 (dk_at dksX8_fill_7 11 rfl rfl)
theorem dX8_fill_179 : decode cX8_fill 179 = .ok (.aload_n 0, 1) := dk_42 (dk_at dksX8_fill_7 12 rfl rfl)
theorem dX8_fill_180 : decode cX8_fill 180 = .ok (.getfield 73, 3) := dk_180 0 73 (dk_at dksX8_fill_7 13 rfl rfl)
theorem dX8_fill_183 : decode cX8_fill 183 = .ok (.bipush 28, 2) := dk_16 28 (dk_at dksX8_fill_7 16 rfl rfl)
theorem dX8_fill_185 : decode cX8_fill 185 = .ok (.iload_n 1, 1) := dk_27 (dk_at dksX8_fill_7 18 rfl rfl)
theorem dX8_fill_186 : decode cX8_fill 186 = .ok (.imul, 1) := dk_104 (dk_at dksX8_fill_7 19 rfl rfl)
theorem dX8_fill_187 : decode cX8_fill 187 = .ok (.iload 6, 2) := dk_21 6 (dk_at dksX8_fill_7 20 rfl rfl)
theorem dX8_fill_189 : decode cX8_fill 189 = .ok (.iadd, 1) := dk_96 (dk_at dksX8_fill_7 22 rfl rfl)
theorem dX8_fill_190 : decode cX8_fill 190 = .ok (.laload, 1) := dk_47 (dk_at dksX8_fill_7 23 rfl rfl)
theorem dX8_fill_191 : decode cX8_fill 191 = .ok (.l2i, 1) := dk_136 (dk_at dksX8_fill_8 0 rfl rfl)
theorem dX8_fill_192 : decode cX8_fill 192 = .ok (.imul, 1) := dk_104 (dk_at dksX8_fill_8 1 rfl rfl)
theorem dX8_fill_193 : decode cX8_fill 193 = .ok (.aload_n 0, 1) := dk_42 (dk_at dksX8_fill_8 2 rfl rfl)
theorem dX8_fill_194 : decode cX8_fill 194 = .ok (.getfield 64, 3) := dk_180 0 64 (dk_at dksX8_fill_8 3 rfl rfl)
theorem dX8_fill_197 : decode cX8_fill 197 = .ok (.bipush 13, 2) := dk_16 13 (dk_at dksX8_fill_8 6 rfl rfl)
theorem dX8_fill_199 : decode cX8_fill 199 = .ok (.iload 6, 2) := dk_21 6 (dk_at dksX8_fill_8 8 rfl rfl)
theorem dX8_fill_201 : decode cX8_fill 201 = .ok (.iconst 1, 1) := dk_4 (dk_at dksX8_fill_8 10 rfl rfl)
theorem dX8_fill_202 : decode cX8_fill 202 = .ok (.iadd, 1) := dk_96 (dk_at dksX8_fill_8 11 rfl rfl)
theorem dX8_fill_203 : decode cX8_fill 203 = .ok (.imul, 1) := dk_104 (dk_at dksX8_fill_8 12 rfl rfl)
theorem dX8_fill_204 : decode cX8_fill 204 = .ok (.iload 7, 2) := dk_21 7 (dk_at dksX8_fill_8 13 rfl rfl)
theorem dX8_fill_206 : decode cX8_fill 206 = .ok (.iadd, 1) := dk_96 (dk_at dksX8_fill_8 15 rfl rfl)
theorem dX8_fill_207 : decode cX8_fill 207 = .ok (.iconst 1, 1) := dk_4 (dk_at dksX8_fill_8 16 rfl rfl)
theorem dX8_fill_208 : decode cX8_fill 208 = .ok (.isub, 1) := dk_100 (dk_at dksX8_fill_8 17 rfl rfl)
theorem dX8_fill_209 : decode cX8_fill 209 = .ok (.iaload, 1) := dk_46 (dk_at dksX8_fill_8 18 rfl rfl)
theorem dX8_fill_210 : decode cX8_fill 210 = .ok (.iadd, 1) := dk_96 (dk_at dksX8_fill_8 19 rfl rfl)
theorem dX8_fill_211 : decode cX8_fill 211 = .ok (.aload_n 0, 1) := dk_42 (dk_at dksX8_fill_8 20 rfl rfl)
theorem dX8_fill_212 : decode cX8_fill 212 = .ok (.getfield 64, 3) := dk_180 0 64 (dk_at dksX8_fill_8 21 rfl rfl)
theorem dX8_fill_215 : decode cX8_fill 215 = .ok (.bipush 13, 2) := dk_16 13 (dk_at dksX8_fill_9 0 rfl rfl)
theorem dX8_fill_217 : decode cX8_fill 217 = .ok (.iload 6, 2) := dk_21 6 (dk_at dksX8_fill_9 2 rfl rfl)
theorem dX8_fill_219 : decode cX8_fill 219 = .ok (.imul, 1) := dk_104 (dk_at dksX8_fill_9 4 rfl rfl)
theorem dX8_fill_220 : decode cX8_fill 220 = .ok (.iload 5, 2) := dk_21 5 (dk_at dksX8_fill_9 5 rfl rfl)
theorem dX8_fill_222 : decode cX8_fill 222 = .ok (.iadd, 1) := dk_96 (dk_at dksX8_fill_9 7 rfl rfl)
theorem dX8_fill_223 : decode cX8_fill 223 = .ok (.iaload, 1) := dk_46 (dk_at dksX8_fill_9 8 rfl rfl)
theorem dX8_fill_224 : decode cX8_fill 224 = .ok (.if_icmp .eq 9, 3) := dk_159 0 9 (dk_at dksX8_fill_9 9 rfl rfl)
theorem dX8_fill_227 : decode cX8_fill 227 = .ok (.iinc 7 1, 3) := dk_132 7 1 (dk_at dksX8_fill_9 12 rfl rfl)
theorem dX8_fill_230 : decode cX8_fill 230 = .ok (.goto (-56), 3) := dk_167 255 200 (dk_at dksX8_fill_9 15 rfl rfl)
theorem dX8_fill_233 : decode cX8_fill 233 = .ok (.iload 6, 2) := dk_21 6 (dk_at dksX8_fill_9 18 rfl rfl)
theorem dX8_fill_235 : decode cX8_fill 235 = .ok (.iload 4, 2) := dk_21 4 (dk_at dksX8_fill_9 20 rfl rfl)
theorem dX8_fill_237 : decode cX8_fill 237 = .ok (.if_icmp .ne 9, 3) := dk_160 0 9 (dk_at dksX8_fill_10 0 rfl rfl)
theorem dX8_fill_240 : decode cX8_fill 240 = .ok (.iload 7, 2) := dk_21 7 (dk_at dksX8_fill_10 3 rfl rfl)
theorem dX8_fill_242 : decode cX8_fill 242 = .ok (.iload 5, 2) := dk_21 5 (dk_at dksX8_fill_10 5 rfl rfl)
theorem dX8_fill_244 : decode cX8_fill 244 = .ok (.isub, 1) := dk_100 (dk_at dksX8_fill_10 7 rfl rfl)
theorem dX8_fill_245 : decode cX8_fill 245 = .ok (.ireturn, 1) := dk_172 (dk_at dksX8_fill_10 8 rfl rfl)
theorem dX8_fill_246 : decode cX8_fill 246 = .ok (.iload 7, 2) := dk_21 7 (dk_at dksX8_fill_10 9 rfl rfl)
theorem dX8_fill_248 : decode cX8_fill 248 = .ok (.iconst 1, 1) := dk_4 (dk_at dksX8_fill_10 11 rfl rfl)
theorem dX8_fill_249 : decode cX8_fill 249 = .ok (.isub, 1) := dk_100 (dk_at dksX8_fill_10 12 rfl rfl)
theorem dX8_fill_250 : decode cX8_fill 250 = .ok (.istore 5, 2) := dk_54 5 (dk_at dksX8_fill_10 13 rfl rfl)
theorem dX8_fill_252 : decode cX8_fill 252 = .ok (.iinc 6 1, 3) := dk_132 6 1 (dk_at dksX8_fill_10 15 rfl rfl)
theorem dX8_fill_255 : decode cX8_fill 255 = .ok (.goto (-89), 3) := dk_167 255 167 (dk_at dksX8_fill_10 18 rfl rfl)
abbrev cX8_layPaid : ByteArray := prog_29_method_96_code
def yX8_layPaid : MethodName := ⟨RX8, "layPaid", "(II)V"⟩
def dkwX8_layPaid_6 : List UInt8 := [21, 5, 96, 21, 6, 79, 132, 5, 1, 167, 255, 153, 132, 4, 255, 167, 255, 139, 177]
abbrev dktX8_layPaid_6 : List UInt8 := dkwX8_layPaid_6 ++ []
def dkwX8_layPaid_5 : List UInt8 := [21, 6, 162, 0, 7, 21, 8, 54, 6, 132, 7, 1, 167, 255, 191, 42, 180, 0, 64, 16, 13, 21, 4, 104]
abbrev dktX8_layPaid_5 : List UInt8 := dkwX8_layPaid_5 ++ dktX8_layPaid_6
def dkwX8_layPaid_4 : List UInt8 := [16, 13, 21, 4, 4, 96, 104, 21, 7, 96, 4, 100, 46, 96, 54, 8, 21, 6, 2, 159, 0, 10, 21, 8]
abbrev dktX8_layPaid_4 : List UInt8 := dkwX8_layPaid_4 ++ dktX8_layPaid_5
def dkwX8_layPaid_3 : List UInt8 := [21, 7, 21, 5, 100, 42, 180, 0, 73, 16, 28, 27, 104, 21, 4, 96, 47, 136, 104, 42, 180, 0, 64]
abbrev dktX8_layPaid_3 : List UInt8 := dkwX8_layPaid_3 ++ dktX8_layPaid_4
def dkwX8_layPaid_2 : List UInt8 := [21, 5, 28, 163, 0, 103, 2, 54, 6, 4, 21, 5, 184, 1, 5, 54, 7, 21, 7, 28, 163, 0, 65]
abbrev dktX8_layPaid_2 : List UInt8 := dkwX8_layPaid_2 ++ dktX8_layPaid_3
def dkwX8_layPaid_1 : List UInt8 := [21, 4, 96, 3, 79, 132, 4, 1, 167, 255, 234, 29, 4, 100, 54, 4, 21, 4, 155, 0, 118, 3, 54, 5]
abbrev dktX8_layPaid_1 : List UInt8 := dkwX8_layPaid_1 ++ dktX8_layPaid_2
def dkwX8_layPaid_0 : List UInt8 := [42, 180, 0, 70, 27, 46, 62, 3, 54, 4, 21, 4, 28, 163, 0, 22, 42, 180, 0, 64, 16, 13, 29, 104]
abbrev dktX8_layPaid_0 : List UInt8 := dkwX8_layPaid_0 ++ dktX8_layPaid_1
theorem dksX8_layPaid_0 : cX8_layPaid.data.toList.drop 0 = dktX8_layPaid_0 := by decide +kernel
theorem dksX8_layPaid_1 : cX8_layPaid.data.toList.drop 24 = dktX8_layPaid_1 := dk_seg dksX8_layPaid_0 24 rfl rfl
theorem dksX8_layPaid_2 : cX8_layPaid.data.toList.drop 48 = dktX8_layPaid_2 := dk_seg dksX8_layPaid_1 24 rfl rfl
theorem dksX8_layPaid_3 : cX8_layPaid.data.toList.drop 71 = dktX8_layPaid_3 := dk_seg dksX8_layPaid_2 23 rfl rfl
theorem dksX8_layPaid_4 : cX8_layPaid.data.toList.drop 94 = dktX8_layPaid_4 := dk_seg dksX8_layPaid_3 23 rfl rfl
theorem dksX8_layPaid_5 : cX8_layPaid.data.toList.drop 118 = dktX8_layPaid_5 := dk_seg dksX8_layPaid_4 24 rfl rfl
theorem dksX8_layPaid_6 : cX8_layPaid.data.toList.drop 142 = dktX8_layPaid_6 := dk_seg dksX8_layPaid_5 24 rfl rfl
theorem dX8_layPaid_0 : decode cX8_layPaid 0 = .ok (.aload_n 0, 1) := dk_42 (dk_at dksX8_layPaid_0 0 rfl rfl)
theorem dX8_layPaid_1 : decode cX8_layPaid 1 = .ok (.getfield 70, 3) := dk_180 0 70 (dk_at dksX8_layPaid_0 1 rfl rfl)
theorem dX8_layPaid_4 : decode cX8_layPaid 4 = .ok (.iload_n 1, 1) := dk_27 (dk_at dksX8_layPaid_0 4 rfl rfl)
theorem dX8_layPaid_5 : decode cX8_layPaid 5 = .ok (.iaload, 1) := dk_46 (dk_at dksX8_layPaid_0 5 rfl rfl)
theorem dX8_layPaid_6 : decode cX8_layPaid 6 = .ok (.istore_n 3, 1) := dk_62 (dk_at dksX8_layPaid_0 6 rfl rfl)
theorem dX8_layPaid_7 : decode cX8_layPaid 7 = .ok (.iconst 0, 1) := dk_3 (dk_at dksX8_layPaid_0 7 rfl rfl)
theorem dX8_layPaid_8 : decode cX8_layPaid 8 = .ok (.istore 4, 2) := dk_54 4 (dk_at dksX8_layPaid_0 8 rfl rfl)
theorem dX8_layPaid_10 : decode cX8_layPaid 10 = .ok (.iload 4, 2) := dk_21 4 (dk_at dksX8_layPaid_0 10 rfl rfl)
theorem dX8_layPaid_12 : decode cX8_layPaid 12 = .ok (.iload_n 2, 1) := dk_28 (dk_at dksX8_layPaid_0 12 rfl rfl)
theorem dX8_layPaid_13 : decode cX8_layPaid 13 = .ok (.if_icmp .gt 22, 3) := dk_163 0 22 (dk_at dksX8_layPaid_0 13 rfl rfl)
theorem dX8_layPaid_16 : decode cX8_layPaid 16 = .ok (.aload_n 0, 1) := dk_42 (dk_at dksX8_layPaid_0 16 rfl rfl)
theorem dX8_layPaid_17 : decode cX8_layPaid 17 = .ok (.getfield 64, 3) := dk_180 0 64 (dk_at dksX8_layPaid_0 17 rfl rfl)
theorem dX8_layPaid_20 : decode cX8_layPaid 20 = .ok (.bipush 13, 2) := dk_16 13 (dk_at dksX8_layPaid_0 20 rfl rfl)
theorem dX8_layPaid_22 : decode cX8_layPaid 22 = .ok (.iload_n 3, 1) := dk_29 (dk_at dksX8_layPaid_0 22 rfl rfl)
theorem dX8_layPaid_23 : decode cX8_layPaid 23 = .ok (.imul, 1) := dk_104 (dk_at dksX8_layPaid_0 23 rfl rfl)
theorem dX8_layPaid_24 : decode cX8_layPaid 24 = .ok (.iload 4, 2) := dk_21 4 (dk_at dksX8_layPaid_1 0 rfl rfl)
theorem dX8_layPaid_26 : decode cX8_layPaid 26 = .ok (.iadd, 1) := dk_96 (dk_at dksX8_layPaid_1 2 rfl rfl)
theorem dX8_layPaid_27 : decode cX8_layPaid 27 = .ok (.iconst 0, 1) := dk_3 (dk_at dksX8_layPaid_1 3 rfl rfl)
theorem dX8_layPaid_28 : decode cX8_layPaid 28 = .ok (.iastore, 1) := dk_79 (dk_at dksX8_layPaid_1 4 rfl rfl)
theorem dX8_layPaid_29 : decode cX8_layPaid 29 = .ok (.iinc 4 1, 3) := dk_132 4 1 (dk_at dksX8_layPaid_1 5 rfl rfl)
theorem dX8_layPaid_32 : decode cX8_layPaid 32 = .ok (.goto (-22), 3) := dk_167 255 234 (dk_at dksX8_layPaid_1 8 rfl rfl)
theorem dX8_layPaid_35 : decode cX8_layPaid 35 = .ok (.iload_n 3, 1) := dk_29 (dk_at dksX8_layPaid_1 11 rfl rfl)
theorem dX8_layPaid_36 : decode cX8_layPaid 36 = .ok (.iconst 1, 1) := dk_4 (dk_at dksX8_layPaid_1 12 rfl rfl)
theorem dX8_layPaid_37 : decode cX8_layPaid 37 = .ok (.isub, 1) := dk_100 (dk_at dksX8_layPaid_1 13 rfl rfl)
theorem dX8_layPaid_38 : decode cX8_layPaid 38 = .ok (.istore 4, 2) := dk_54 4 (dk_at dksX8_layPaid_1 14 rfl rfl)
theorem dX8_layPaid_40 : decode cX8_layPaid 40 = .ok (.iload 4, 2) := dk_21 4 (dk_at dksX8_layPaid_1 16 rfl rfl)
theorem dX8_layPaid_42 : decode cX8_layPaid 42 = .ok (.ifCond .lt 118, 3) := dk_155 0 118 (dk_at dksX8_layPaid_1 18 rfl rfl)
theorem dX8_layPaid_45 : decode cX8_layPaid 45 = .ok (.iconst 0, 1) := dk_3 (dk_at dksX8_layPaid_1 21 rfl rfl)
theorem dX8_layPaid_46 : decode cX8_layPaid 46 = .ok (.istore 5, 2) := dk_54 5 (dk_at dksX8_layPaid_1 22 rfl rfl)
theorem dX8_layPaid_48 : decode cX8_layPaid 48 = .ok (.iload 5, 2) := dk_21 5 (dk_at dksX8_layPaid_2 0 rfl rfl)
theorem dX8_layPaid_50 : decode cX8_layPaid 50 = .ok (.iload_n 2, 1) := dk_28 (dk_at dksX8_layPaid_2 2 rfl rfl)
theorem dX8_layPaid_51 : decode cX8_layPaid 51 = .ok (.if_icmp .gt 103, 3) := dk_163 0 103 (dk_at dksX8_layPaid_2 3 rfl rfl)
theorem dX8_layPaid_54 : decode cX8_layPaid 54 = .ok (.iconst (-1), 1) := dk_2 (dk_at dksX8_layPaid_2 6 rfl rfl)
theorem dX8_layPaid_55 : decode cX8_layPaid 55 = .ok (.istore 6, 2) := dk_54 6 (dk_at dksX8_layPaid_2 7 rfl rfl)
theorem dX8_layPaid_57 : decode cX8_layPaid 57 = .ok (.iconst 1, 1) := dk_4 (dk_at dksX8_layPaid_2 9 rfl rfl)
theorem dX8_layPaid_58 : decode cX8_layPaid 58 = .ok (.iload 5, 2) := dk_21 5 (dk_at dksX8_layPaid_2 10 rfl rfl)
theorem dX8_layPaid_60 : decode cX8_layPaid 60 = .ok (.invokestatic 261, 3) := dk_184 1 5 (dk_at dksX8_layPaid_2 12 rfl rfl)
theorem dX8_layPaid_63 : decode cX8_layPaid 63 = .ok (.istore 7, 2) := dk_54 7 (dk_at dksX8_layPaid_2 15 rfl rfl)
theorem dX8_layPaid_65 : decode cX8_layPaid 65 = .ok (.iload 7, 2) := dk_21 7 (dk_at dksX8_layPaid_2 17 rfl rfl)
theorem dX8_layPaid_67 : decode cX8_layPaid 67 = .ok (.iload_n 2, 1) := dk_28 (dk_at dksX8_layPaid_2 19 rfl rfl)
theorem dX8_layPaid_68 : decode cX8_layPaid 68 = .ok (.if_icmp .gt 65, 3) := dk_163 0 65 (dk_at dksX8_layPaid_2 20 rfl rfl)
theorem dX8_layPaid_71 : decode cX8_layPaid 71 = .ok (.iload 7, 2) := dk_21 7 (dk_at dksX8_layPaid_3 0 rfl rfl)
theorem dX8_layPaid_73 : decode cX8_layPaid 73 = .ok (.iload 5, 2) := dk_21 5 (dk_at dksX8_layPaid_3 2 rfl rfl)
theorem dX8_layPaid_75 : decode cX8_layPaid 75 = .ok (.isub, 1) := dk_100 (dk_at dksX8_layPaid_3 4 rfl rfl)
theorem dX8_layPaid_76 : decode cX8_layPaid 76 = .ok (.aload_n 0, 1) := dk_42 (dk_at dksX8_layPaid_3 5 rfl rfl)
theorem dX8_layPaid_77 : decode cX8_layPaid 77 = .ok (.getfield 73, 3) := dk_180 0 73 (dk_at dksX8_layPaid_3 6 rfl rfl)
theorem dX8_layPaid_80 : decode cX8_layPaid 80 = .ok (.bipush 28, 2) := dk_16 28 (dk_at dksX8_layPaid_3 9 rfl rfl)
theorem dX8_layPaid_82 : decode cX8_layPaid 82 = .ok (.iload_n 1, 1) := dk_27 (dk_at dksX8_layPaid_3 11 rfl rfl)
theorem dX8_layPaid_83 : decode cX8_layPaid 83 = .ok (.imul, 1) := dk_104 (dk_at dksX8_layPaid_3 12 rfl rfl)
theorem dX8_layPaid_84 : decode cX8_layPaid 84 = .ok (.iload 4, 2) := dk_21 4 (dk_at dksX8_layPaid_3 13 rfl rfl)
theorem dX8_layPaid_86 : decode cX8_layPaid 86 = .ok (.iadd, 1) := dk_96 (dk_at dksX8_layPaid_3 15 rfl rfl)
theorem dX8_layPaid_87 : decode cX8_layPaid 87 = .ok (.laload, 1) := dk_47 (dk_at dksX8_layPaid_3 16 rfl rfl)
theorem dX8_layPaid_88 : decode cX8_layPaid 88 = .ok (.l2i, 1) := dk_136 (dk_at dksX8_layPaid_3 17 rfl rfl)
theorem dX8_layPaid_89 : decode cX8_layPaid 89 = .ok (.imul, 1) := dk_104 (dk_at dksX8_layPaid_3 18 rfl rfl)
theorem dX8_layPaid_90 : decode cX8_layPaid 90 = .ok (.aload_n 0, 1) := dk_42 (dk_at dksX8_layPaid_3 19 rfl rfl)
theorem dX8_layPaid_91 : decode cX8_layPaid 91 = .ok (.getfield 64, 3) := dk_180 0 64 (dk_at dksX8_layPaid_3 20 rfl rfl)
theorem dX8_layPaid_94 : decode cX8_layPaid 94 = .ok (.bipush 13, 2) := dk_16 13 (dk_at dksX8_layPaid_4 0 rfl rfl)
theorem dX8_layPaid_96 : decode cX8_layPaid 96 = .ok (.iload 4, 2) := dk_21 4 (dk_at dksX8_layPaid_4 2 rfl rfl)
theorem dX8_layPaid_98 : decode cX8_layPaid 98 = .ok (.iconst 1, 1) := dk_4 (dk_at dksX8_layPaid_4 4 rfl rfl)
theorem dX8_layPaid_99 : decode cX8_layPaid 99 = .ok (.iadd, 1) := dk_96 (dk_at dksX8_layPaid_4 5 rfl rfl)
theorem dX8_layPaid_100 : decode cX8_layPaid 100 = .ok (.imul, 1) := dk_104 (dk_at dksX8_layPaid_4 6 rfl rfl)
theorem dX8_layPaid_101 : decode cX8_layPaid 101 = .ok (.iload 7, 2) := dk_21 7 (dk_at dksX8_layPaid_4 7 rfl rfl)
theorem dX8_layPaid_103 : decode cX8_layPaid 103 = .ok (.iadd, 1) := dk_96 (dk_at dksX8_layPaid_4 9 rfl rfl)
theorem dX8_layPaid_104 : decode cX8_layPaid 104 = .ok (.iconst 1, 1) := dk_4 (dk_at dksX8_layPaid_4 10 rfl rfl)
theorem dX8_layPaid_105 : decode cX8_layPaid 105 = .ok (.isub, 1) := dk_100 (dk_at dksX8_layPaid_4 11 rfl rfl)
theorem dX8_layPaid_106 : decode cX8_layPaid 106 = .ok (.iaload, 1) := dk_46 (dk_at dksX8_layPaid_4 12 rfl rfl)
theorem dX8_layPaid_107 : decode cX8_layPaid 107 = .ok (.iadd, 1) := dk_96 (dk_at dksX8_layPaid_4 13 rfl rfl)
theorem dX8_layPaid_108 : decode cX8_layPaid 108 = .ok (.istore 8, 2) := dk_54 8 (dk_at dksX8_layPaid_4 14 rfl rfl)
theorem dX8_layPaid_110 : decode cX8_layPaid 110 = .ok (.iload 6, 2) := dk_21 6 (dk_at dksX8_layPaid_4 16 rfl rfl)
theorem dX8_layPaid_112 : decode cX8_layPaid 112 = .ok (.iconst (-1), 1) := dk_2 (dk_at dksX8_layPaid_4 18 rfl rfl)
theorem dX8_layPaid_113 : decode cX8_layPaid 113 = .ok (.if_icmp .eq 10, 3) := dk_159 0 10 (dk_at dksX8_layPaid_4 19 rfl rfl)
theorem dX8_layPaid_116 : decode cX8_layPaid 116 = .ok (.iload 8, 2) := dk_21 8 (dk_at dksX8_layPaid_4 22 rfl rfl)
theorem dX8_layPaid_118 : decode cX8_layPaid 118 = .ok (.iload 6, 2) := dk_21 6 (dk_at dksX8_layPaid_5 0 rfl rfl)
theorem dX8_layPaid_120 : decode cX8_layPaid 120 = .ok (.if_icmp .ge 7, 3) := dk_162 0 7 (dk_at dksX8_layPaid_5 2 rfl rfl)
theorem dX8_layPaid_123 : decode cX8_layPaid 123 = .ok (.iload 8, 2) := dk_21 8 (dk_at dksX8_layPaid_5 5 rfl rfl)
theorem dX8_layPaid_125 : decode cX8_layPaid 125 = .ok (.istore 6, 2) := dk_54 6 (dk_at dksX8_layPaid_5 7 rfl rfl)
theorem dX8_layPaid_127 : decode cX8_layPaid 127 = .ok (.iinc 7 1, 3) := dk_132 7 1 (dk_at dksX8_layPaid_5 9 rfl rfl)
theorem dX8_layPaid_130 : decode cX8_layPaid 130 = .ok (.goto (-65), 3) := dk_167 255 191 (dk_at dksX8_layPaid_5 12 rfl rfl)
theorem dX8_layPaid_133 : decode cX8_layPaid 133 = .ok (.aload_n 0, 1) := dk_42 (dk_at dksX8_layPaid_5 15 rfl rfl)
theorem dX8_layPaid_134 : decode cX8_layPaid 134 = .ok (.getfield 64, 3) := dk_180 0 64 (dk_at dksX8_layPaid_5 16 rfl rfl)
theorem dX8_layPaid_137 : decode cX8_layPaid 137 = .ok (.bipush 13, 2) := dk_16 13 (dk_at dksX8_layPaid_5 19 rfl rfl)
theorem dX8_layPaid_139 : decode cX8_layPaid 139 = .ok (.iload 4, 2) := dk_21 4 (dk_at dksX8_layPaid_5 21 rfl rfl)
theorem dX8_layPaid_141 : decode cX8_layPaid 141 = .ok (.imul, 1) := dk_104 (dk_at dksX8_layPaid_5 23 rfl rfl)
theorem dX8_layPaid_142 : decode cX8_layPaid 142 = .ok (.iload 5, 2) := dk_21 5 (dk_at dksX8_layPaid_6 0 rfl rfl)
theorem dX8_layPaid_144 : decode cX8_layPaid 144 = .ok (.iadd, 1) := dk_96 (dk_at dksX8_layPaid_6 2 rfl rfl)
theorem dX8_layPaid_145 : decode cX8_layPaid 145 = .ok (.iload 6, 2) := dk_21 6 (dk_at dksX8_layPaid_6 3 rfl rfl)
theorem dX8_layPaid_147 : decode cX8_layPaid 147 = .ok (.iastore, 1) := dk_79 (dk_at dksX8_layPaid_6 5 rfl rfl)
theorem dX8_layPaid_148 : decode cX8_layPaid 148 = .ok (.iinc 5 1, 3) := dk_132 5 1 (dk_at dksX8_layPaid_6 6 rfl rfl)
theorem dX8_layPaid_151 : decode cX8_layPaid 151 = .ok (.goto (-103), 3) := dk_167 255 153 (dk_at dksX8_layPaid_6 9 rfl rfl)
theorem dX8_layPaid_154 : decode cX8_layPaid 154 = .ok (.iinc 4 (-1), 3) := dk_132 4 255 (dk_at dksX8_layPaid_6 12 rfl rfl)
theorem dX8_layPaid_157 : decode cX8_layPaid 157 = .ok (.goto (-117), 3) := dk_167 255 139 (dk_at dksX8_layPaid_6 15 rfl rfl)
theorem dX8_layPaid_160 : decode cX8_layPaid 160 = .ok (.return_, 1) := dk_177 (dk_at dksX8_layPaid_6 18 rfl rfl)
abbrev cX8_told : ByteArray := prog_29_method_98_code
def yX8_told : MethodName := ⟨RX8, "told", "(IIII)I"⟩
def dkwX8_told_8 : List UInt8 := [180, 0, 9, 8, 46, 172]
abbrev dktX8_told_8 : List UInt8 := dkwX8_told_8 ++ []
def dkwX8_told_7 : List UInt8 := [167, 0, 5, 21, 4, 79, 132, 5, 1, 167, 255, 191, 42, 180, 0, 9, 8, 92, 46, 4, 96, 79, 42]
abbrev dktX8_told_7 : List UInt8 := dkwX8_told_7 ++ dktX8_told_8
def dkwX8_told_6 : List UInt8 := [154, 0, 7, 27, 167, 0, 25, 21, 5, 4, 160, 0, 7, 28, 167, 0, 15, 21, 5, 5, 160, 0, 7, 29]
abbrev dktX8_told_6 : List UInt8 := dkwX8_told_6 ++ dktX8_told_7
def dkwX8_told_5 : List UInt8 := [162, 0, 60, 42, 180, 0, 9, 17, 11, 93, 7, 42, 180, 0, 9, 8, 46, 104, 96, 21, 5, 96, 21, 5]
abbrev dktX8_told_5 : List UInt8 := dkwX8_told_5 ++ dktX8_told_6
def dkwX8_told_4 : List UInt8 := [180, 0, 9, 8, 46, 16, 60, 160, 0, 5, 2, 172, 3, 54, 5, 21, 5, 42, 180, 0, 9, 3, 46]
abbrev dktX8_told_4 : List UInt8 := dkwX8_told_4 ++ dktX8_told_5
def dkwX8_told_3 : List UInt8 := [20, 0, 87, 184, 0, 79, 154, 0, 9, 42, 5, 182, 0, 83, 172, 132, 5, 1, 167, 255, 191, 42]
abbrev dktX8_told_3 : List UInt8 := dkwX8_told_3 ++ dktX8_told_4
def dkwX8_told_2 : List UInt8 := [160, 0, 8, 28, 133, 167, 0, 17, 21, 5, 5, 160, 0, 8, 29, 133, 167, 0, 6, 21, 4, 133, 9]
abbrev dktX8_told_2 : List UInt8 := dkwX8_told_2 ++ dktX8_told_3
def dkwX8_told_1 : List UInt8 := [21, 5, 42, 180, 0, 9, 3, 46, 162, 0, 60, 21, 5, 154, 0, 8, 27, 133, 167, 0, 28, 21, 5, 4]
abbrev dktX8_told_1 : List UInt8 := dkwX8_told_1 ++ dktX8_told_2
def dkwX8_told_0 : List UInt8 := [42, 3, 181, 0, 76, 42, 180, 0, 9, 3, 46, 154, 0, 9, 42, 4, 182, 0, 83, 172, 3, 54, 5]
abbrev dktX8_told_0 : List UInt8 := dkwX8_told_0 ++ dktX8_told_1
theorem dksX8_told_0 : cX8_told.data.toList.drop 0 = dktX8_told_0 := by decide +kernel
theorem dksX8_told_1 : cX8_told.data.toList.drop 23 = dktX8_told_1 := dk_seg dksX8_told_0 23 rfl rfl
theorem dksX8_told_2 : cX8_told.data.toList.drop 47 = dktX8_told_2 := dk_seg dksX8_told_1 24 rfl rfl
theorem dksX8_told_3 : cX8_told.data.toList.drop 70 = dktX8_told_3 := dk_seg dksX8_told_2 23 rfl rfl
theorem dksX8_told_4 : cX8_told.data.toList.drop 92 = dktX8_told_4 := dk_seg dksX8_told_3 22 rfl rfl
theorem dksX8_told_5 : cX8_told.data.toList.drop 115 = dktX8_told_5 := dk_seg dksX8_told_4 23 rfl rfl
theorem dksX8_told_6 : cX8_told.data.toList.drop 139 = dktX8_told_6 := dk_seg dksX8_told_5 24 rfl rfl
theorem dksX8_told_7 : cX8_told.data.toList.drop 163 = dktX8_told_7 := dk_seg dksX8_told_6 24 rfl rfl
theorem dksX8_told_8 : cX8_told.data.toList.drop 186 = dktX8_told_8 := dk_seg dksX8_told_7 23 rfl rfl
theorem dX8_told_0 : decode cX8_told 0 = .ok (.aload_n 0, 1) := dk_42 (dk_at dksX8_told_0 0 rfl rfl)
theorem dX8_told_1 : decode cX8_told 1 = .ok (.iconst 0, 1) := dk_3 (dk_at dksX8_told_0 1 rfl rfl)
theorem dX8_told_2 : decode cX8_told 2 = .ok (.putfield 76, 3) := dk_181 0 76 (dk_at dksX8_told_0 2 rfl rfl)
theorem dX8_told_5 : decode cX8_told 5 = .ok (.aload_n 0, 1) := dk_42 (dk_at dksX8_told_0 5 rfl rfl)
theorem dX8_told_6 : decode cX8_told 6 = .ok (.getfield 9, 3) := dk_180 0 9 (dk_at dksX8_told_0 6 rfl rfl)
theorem dX8_told_9 : decode cX8_told 9 = .ok (.iconst 0, 1) := dk_3 (dk_at dksX8_told_0 9 rfl rfl)
theorem dX8_told_10 : decode cX8_told 10 = .ok (.iaload, 1) := dk_46 (dk_at dksX8_told_0 10 rfl rfl)
theorem dX8_told_11 : decode cX8_told 11 = .ok (.ifCond .ne 9, 3) := dk_154 0 9 (dk_at dksX8_told_0 11 rfl rfl)
theorem dX8_told_14 : decode cX8_told 14 = .ok (.aload_n 0, 1) := dk_42 (dk_at dksX8_told_0 14 rfl rfl)
theorem dX8_told_15 : decode cX8_told 15 = .ok (.iconst 1, 1) := dk_4 (dk_at dksX8_told_0 15 rfl rfl)
theorem dX8_told_16 : decode cX8_told 16 = .ok (.invokevirtual 83, 3) := dk_182 0 83 (dk_at dksX8_told_0 16 rfl rfl)
theorem dX8_told_19 : decode cX8_told 19 = .ok (.ireturn, 1) := dk_172 (dk_at dksX8_told_0 19 rfl rfl)
theorem dX8_told_20 : decode cX8_told 20 = .ok (.iconst 0, 1) := dk_3 (dk_at dksX8_told_0 20 rfl rfl)
theorem dX8_told_21 : decode cX8_told 21 = .ok (.istore 5, 2) := dk_54 5 (dk_at dksX8_told_0 21 rfl rfl)
theorem dX8_told_23 : decode cX8_told 23 = .ok (.iload 5, 2) := dk_21 5 (dk_at dksX8_told_1 0 rfl rfl)
theorem dX8_told_25 : decode cX8_told 25 = .ok (.aload_n 0, 1) := dk_42 (dk_at dksX8_told_1 2 rfl rfl)
theorem dX8_told_26 : decode cX8_told 26 = .ok (.getfield 9, 3) := dk_180 0 9 (dk_at dksX8_told_1 3 rfl rfl)
theorem dX8_told_29 : decode cX8_told 29 = .ok (.iconst 0, 1) := dk_3 (dk_at dksX8_told_1 6 rfl rfl)
theorem dX8_told_30 : decode cX8_told 30 = .ok (.iaload, 1) := dk_46 (dk_at dksX8_told_1 7 rfl rfl)
theorem dX8_told_31 : decode cX8_told 31 = .ok (.if_icmp .ge 60, 3) := dk_162 0 60 (dk_at dksX8_told_1 8 rfl rfl)
theorem dX8_told_34 : decode cX8_told 34 = .ok (.iload 5, 2) := dk_21 5 (dk_at dksX8_told_1 11 rfl rfl)
theorem dX8_told_36 : decode cX8_told 36 = .ok (.ifCond .ne 8, 3) := dk_154 0 8 (dk_at dksX8_told_1 13 rfl rfl)
theorem dX8_told_39 : decode cX8_told 39 = .ok (.iload_n 1, 1) := dk_27 (dk_at dksX8_told_1 16 rfl rfl)
theorem dX8_told_40 : decode cX8_told 40 = .ok (.i2l, 1) := dk_133 (dk_at dksX8_told_1 17 rfl rfl)
theorem dX8_told_41 : decode cX8_told 41 = .ok (.goto 28, 3) := dk_167 0 28 (dk_at dksX8_told_1 18 rfl rfl)
theorem dX8_told_44 : decode cX8_told 44 = .ok (.iload 5, 2) := dk_21 5 (dk_at dksX8_told_1 21 rfl rfl)
theorem dX8_told_46 : decode cX8_told 46 = .ok (.iconst 1, 1) := dk_4 (dk_at dksX8_told_1 23 rfl rfl)
theorem dX8_told_47 : decode cX8_told 47 = .ok (.if_icmp .ne 8, 3) := dk_160 0 8 (dk_at dksX8_told_2 0 rfl rfl)
theorem dX8_told_50 : decode cX8_told 50 = .ok (.iload_n 2, 1) := dk_28 (dk_at dksX8_told_2 3 rfl rfl)
theorem dX8_told_51 : decode cX8_told 51 = .ok (.i2l, 1) := dk_133 (dk_at dksX8_told_2 4 rfl rfl)
theorem dX8_told_52 : decode cX8_told 52 = .ok (.goto 17, 3) := dk_167 0 17 (dk_at dksX8_told_2 5 rfl rfl)
theorem dX8_told_55 : decode cX8_told 55 = .ok (.iload 5, 2) := dk_21 5 (dk_at dksX8_told_2 8 rfl rfl)
theorem dX8_told_57 : decode cX8_told 57 = .ok (.iconst 2, 1) := dk_5 (dk_at dksX8_told_2 10 rfl rfl)
theorem dX8_told_58 : decode cX8_told 58 = .ok (.if_icmp .ne 8, 3) := dk_160 0 8 (dk_at dksX8_told_2 11 rfl rfl)
theorem dX8_told_61 : decode cX8_told 61 = .ok (.iload_n 3, 1) := dk_29 (dk_at dksX8_told_2 14 rfl rfl)
theorem dX8_told_62 : decode cX8_told 62 = .ok (.i2l, 1) := dk_133 (dk_at dksX8_told_2 15 rfl rfl)
theorem dX8_told_63 : decode cX8_told 63 = .ok (.goto 6, 3) := dk_167 0 6 (dk_at dksX8_told_2 16 rfl rfl)
theorem dX8_told_66 : decode cX8_told 66 = .ok (.iload 4, 2) := dk_21 4 (dk_at dksX8_told_2 19 rfl rfl)
theorem dX8_told_68 : decode cX8_told 68 = .ok (.i2l, 1) := dk_133 (dk_at dksX8_told_2 21 rfl rfl)
theorem dX8_told_69 : decode cX8_told 69 = .ok (.lconst 0, 1) := dk_9 (dk_at dksX8_told_2 22 rfl rfl)
theorem dX8_told_70 : decode cX8_told 70 = .ok (.ldc2_w 87, 3) := dk_20 0 87 (dk_at dksX8_told_3 0 rfl rfl)
theorem dX8_told_73 : decode cX8_told 73 = .ok (.invokestatic 79, 3) := dk_184 0 79 (dk_at dksX8_told_3 3 rfl rfl)
theorem dX8_told_76 : decode cX8_told 76 = .ok (.ifCond .ne 9, 3) := dk_154 0 9 (dk_at dksX8_told_3 6 rfl rfl)
theorem dX8_told_79 : decode cX8_told 79 = .ok (.aload_n 0, 1) := dk_42 (dk_at dksX8_told_3 9 rfl rfl)
theorem dX8_told_80 : decode cX8_told 80 = .ok (.iconst 2, 1) := dk_5 (dk_at dksX8_told_3 10 rfl rfl)
theorem dX8_told_81 : decode cX8_told 81 = .ok (.invokevirtual 83, 3) := dk_182 0 83 (dk_at dksX8_told_3 11 rfl rfl)
theorem dX8_told_84 : decode cX8_told 84 = .ok (.ireturn, 1) := dk_172 (dk_at dksX8_told_3 14 rfl rfl)
theorem dX8_told_85 : decode cX8_told 85 = .ok (.iinc 5 1, 3) := dk_132 5 1 (dk_at dksX8_told_3 15 rfl rfl)
theorem dX8_told_88 : decode cX8_told 88 = .ok (.goto (-65), 3) := dk_167 255 191 (dk_at dksX8_told_3 18 rfl rfl)
theorem dX8_told_91 : decode cX8_told 91 = .ok (.aload_n 0, 1) := dk_42 (dk_at dksX8_told_3 21 rfl rfl)
theorem dX8_told_92 : decode cX8_told 92 = .ok (.getfield 9, 3) := dk_180 0 9 (dk_at dksX8_told_4 0 rfl rfl)
theorem dX8_told_95 : decode cX8_told 95 = .ok (.iconst 5, 1) := dk_8 (dk_at dksX8_told_4 3 rfl rfl)
theorem dX8_told_96 : decode cX8_told 96 = .ok (.iaload, 1) := dk_46 (dk_at dksX8_told_4 4 rfl rfl)
theorem dX8_told_97 : decode cX8_told 97 = .ok (.bipush 60, 2) := dk_16 60 (dk_at dksX8_told_4 5 rfl rfl)
theorem dX8_told_99 : decode cX8_told 99 = .ok (.if_icmp .ne 5, 3) := dk_160 0 5 (dk_at dksX8_told_4 7 rfl rfl)
theorem dX8_told_102 : decode cX8_told 102 = .ok (.iconst (-1), 1) := dk_2 (dk_at dksX8_told_4 10 rfl rfl)
theorem dX8_told_103 : decode cX8_told 103 = .ok (.ireturn, 1) := dk_172 (dk_at dksX8_told_4 11 rfl rfl)
theorem dX8_told_104 : decode cX8_told 104 = .ok (.iconst 0, 1) := dk_3 (dk_at dksX8_told_4 12 rfl rfl)
theorem dX8_told_105 : decode cX8_told 105 = .ok (.istore 5, 2) := dk_54 5 (dk_at dksX8_told_4 13 rfl rfl)
theorem dX8_told_107 : decode cX8_told 107 = .ok (.iload 5, 2) := dk_21 5 (dk_at dksX8_told_4 15 rfl rfl)
theorem dX8_told_109 : decode cX8_told 109 = .ok (.aload_n 0, 1) := dk_42 (dk_at dksX8_told_4 17 rfl rfl)
theorem dX8_told_110 : decode cX8_told 110 = .ok (.getfield 9, 3) := dk_180 0 9 (dk_at dksX8_told_4 18 rfl rfl)
theorem dX8_told_113 : decode cX8_told 113 = .ok (.iconst 0, 1) := dk_3 (dk_at dksX8_told_4 21 rfl rfl)
theorem dX8_told_114 : decode cX8_told 114 = .ok (.iaload, 1) := dk_46 (dk_at dksX8_told_4 22 rfl rfl)
theorem dX8_told_115 : decode cX8_told 115 = .ok (.if_icmp .ge 60, 3) := dk_162 0 60 (dk_at dksX8_told_5 0 rfl rfl)
theorem dX8_told_118 : decode cX8_told 118 = .ok (.aload_n 0, 1) := dk_42 (dk_at dksX8_told_5 3 rfl rfl)
theorem dX8_told_119 : decode cX8_told 119 = .ok (.getfield 9, 3) := dk_180 0 9 (dk_at dksX8_told_5 4 rfl rfl)
theorem dX8_told_122 : decode cX8_told 122 = .ok (.sipush 2909, 3) := dk_17 11 93 (dk_at dksX8_told_5 7 rfl rfl)
theorem dX8_told_125 : decode cX8_told 125 = .ok (.iconst 4, 1) := dk_7 (dk_at dksX8_told_5 10 rfl rfl)
theorem dX8_told_126 : decode cX8_told 126 = .ok (.aload_n 0, 1) := dk_42 (dk_at dksX8_told_5 11 rfl rfl)
theorem dX8_told_127 : decode cX8_told 127 = .ok (.getfield 9, 3) := dk_180 0 9 (dk_at dksX8_told_5 12 rfl rfl)
theorem dX8_told_130 : decode cX8_told 130 = .ok (.iconst 5, 1) := dk_8 (dk_at dksX8_told_5 15 rfl rfl)
theorem dX8_told_131 : decode cX8_told 131 = .ok (.iaload, 1) := dk_46 (dk_at dksX8_told_5 16 rfl rfl)
theorem dX8_told_132 : decode cX8_told 132 = .ok (.imul, 1) := dk_104 (dk_at dksX8_told_5 17 rfl rfl)
theorem dX8_told_133 : decode cX8_told 133 = .ok (.iadd, 1) := dk_96 (dk_at dksX8_told_5 18 rfl rfl)
theorem dX8_told_134 : decode cX8_told 134 = .ok (.iload 5, 2) := dk_21 5 (dk_at dksX8_told_5 19 rfl rfl)
theorem dX8_told_136 : decode cX8_told 136 = .ok (.iadd, 1) := dk_96 (dk_at dksX8_told_5 21 rfl rfl)
theorem dX8_told_137 : decode cX8_told 137 = .ok (.iload 5, 2) := dk_21 5 (dk_at dksX8_told_5 22 rfl rfl)
theorem dX8_told_139 : decode cX8_told 139 = .ok (.ifCond .ne 7, 3) := dk_154 0 7 (dk_at dksX8_told_6 0 rfl rfl)
theorem dX8_told_142 : decode cX8_told 142 = .ok (.iload_n 1, 1) := dk_27 (dk_at dksX8_told_6 3 rfl rfl)
theorem dX8_told_143 : decode cX8_told 143 = .ok (.goto 25, 3) := dk_167 0 25 (dk_at dksX8_told_6 4 rfl rfl)
theorem dX8_told_146 : decode cX8_told 146 = .ok (.iload 5, 2) := dk_21 5 (dk_at dksX8_told_6 7 rfl rfl)
theorem dX8_told_148 : decode cX8_told 148 = .ok (.iconst 1, 1) := dk_4 (dk_at dksX8_told_6 9 rfl rfl)
theorem dX8_told_149 : decode cX8_told 149 = .ok (.if_icmp .ne 7, 3) := dk_160 0 7 (dk_at dksX8_told_6 10 rfl rfl)
theorem dX8_told_152 : decode cX8_told 152 = .ok (.iload_n 2, 1) := dk_28 (dk_at dksX8_told_6 13 rfl rfl)
theorem dX8_told_153 : decode cX8_told 153 = .ok (.goto 15, 3) := dk_167 0 15 (dk_at dksX8_told_6 14 rfl rfl)
theorem dX8_told_156 : decode cX8_told 156 = .ok (.iload 5, 2) := dk_21 5 (dk_at dksX8_told_6 17 rfl rfl)
theorem dX8_told_158 : decode cX8_told 158 = .ok (.iconst 2, 1) := dk_5 (dk_at dksX8_told_6 19 rfl rfl)
theorem dX8_told_159 : decode cX8_told 159 = .ok (.if_icmp .ne 7, 3) := dk_160 0 7 (dk_at dksX8_told_6 20 rfl rfl)
theorem dX8_told_162 : decode cX8_told 162 = .ok (.iload_n 3, 1) := dk_29 (dk_at dksX8_told_6 23 rfl rfl)
theorem dX8_told_163 : decode cX8_told 163 = .ok (.goto 5, 3) := dk_167 0 5 (dk_at dksX8_told_7 0 rfl rfl)
theorem dX8_told_166 : decode cX8_told 166 = .ok (.iload 4, 2) := dk_21 4 (dk_at dksX8_told_7 3 rfl rfl)
theorem dX8_told_168 : decode cX8_told 168 = .ok (.iastore, 1) := dk_79 (dk_at dksX8_told_7 5 rfl rfl)
theorem dX8_told_169 : decode cX8_told 169 = .ok (.iinc 5 1, 3) := dk_132 5 1 (dk_at dksX8_told_7 6 rfl rfl)
theorem dX8_told_172 : decode cX8_told 172 = .ok (.goto (-65), 3) := dk_167 255 191 (dk_at dksX8_told_7 9 rfl rfl)
theorem dX8_told_175 : decode cX8_told 175 = .ok (.aload_n 0, 1) := dk_42 (dk_at dksX8_told_7 12 rfl rfl)
theorem dX8_told_176 : decode cX8_told 176 = .ok (.getfield 9, 3) := dk_180 0 9 (dk_at dksX8_told_7 13 rfl rfl)
theorem dX8_told_179 : decode cX8_told 179 = .ok (.iconst 5, 1) := dk_8 (dk_at dksX8_told_7 16 rfl rfl)
theorem dX8_told_180 : decode cX8_told 180 = .ok (.dup2, 1) := dk_92 (dk_at dksX8_told_7 17 rfl rfl)
theorem dX8_told_181 : decode cX8_told 181 = .ok (.iaload, 1) := dk_46 (dk_at dksX8_told_7 18 rfl rfl)
theorem dX8_told_182 : decode cX8_told 182 = .ok (.iconst 1, 1) := dk_4 (dk_at dksX8_told_7 19 rfl rfl)
theorem dX8_told_183 : decode cX8_told 183 = .ok (.iadd, 1) := dk_96 (dk_at dksX8_told_7 20 rfl rfl)
theorem dX8_told_184 : decode cX8_told 184 = .ok (.iastore, 1) := dk_79 (dk_at dksX8_told_7 21 rfl rfl)
theorem dX8_told_185 : decode cX8_told 185 = .ok (.aload_n 0, 1) := dk_42 (dk_at dksX8_told_7 22 rfl rfl)
theorem dX8_told_186 : decode cX8_told 186 = .ok (.getfield 9, 3) := dk_180 0 9 (dk_at dksX8_told_8 0 rfl rfl)
theorem dX8_told_189 : decode cX8_told 189 = .ok (.iconst 5, 1) := dk_8 (dk_at dksX8_told_8 3 rfl rfl)
theorem dX8_told_190 : decode cX8_told 190 = .ok (.iaload, 1) := dk_46 (dk_at dksX8_told_8 4 rfl rfl)
theorem dX8_told_191 : decode cX8_told 191 = .ok (.ireturn, 1) := dk_172 (dk_at dksX8_told_8 5 rfl rfl)
abbrev cX8_fit : ByteArray := prog_29_method_99_code
def yX8_fit : MethodName := ⟨RX8, "fit", "(I)I"⟩
def dkwX8_fit_2 : List UInt8 := [159, 0, 5, 28, 172, 132, 2, 1, 167, 255, 226, 2, 172]
abbrev dktX8_fit_2 : List UInt8 := dkwX8_fit_2 ++ []
def dkwX8_fit_1 : List UInt8 := [4, 61, 28, 42, 180, 0, 9, 8, 46, 162, 0, 26, 42, 27, 28, 182, 1, 39, 42, 27, 28, 182, 1, 10]
abbrev dktX8_fit_1 : List UInt8 := dkwX8_fit_1 ++ dktX8_fit_2
def dkwX8_fit_0 : List UInt8 := [42, 3, 181, 0, 76, 42, 27, 182, 0, 91, 154, 0, 9, 42, 4, 182, 0, 83, 172, 42, 4, 181, 1, 1]
abbrev dktX8_fit_0 : List UInt8 := dkwX8_fit_0 ++ dktX8_fit_1
theorem dksX8_fit_0 : cX8_fit.data.toList.drop 0 = dktX8_fit_0 := by decide +kernel
theorem dksX8_fit_1 : cX8_fit.data.toList.drop 24 = dktX8_fit_1 := dk_seg dksX8_fit_0 24 rfl rfl
theorem dksX8_fit_2 : cX8_fit.data.toList.drop 48 = dktX8_fit_2 := dk_seg dksX8_fit_1 24 rfl rfl
theorem dX8_fit_0 : decode cX8_fit 0 = .ok (.aload_n 0, 1) := dk_42 (dk_at dksX8_fit_0 0 rfl rfl)
theorem dX8_fit_1 : decode cX8_fit 1 = .ok (.iconst 0, 1) := dk_3 (dk_at dksX8_fit_0 1 rfl rfl)
theorem dX8_fit_2 : decode cX8_fit 2 = .ok (.putfield 76, 3) := dk_181 0 76 (dk_at dksX8_fit_0 2 rfl rfl)
theorem dX8_fit_5 : decode cX8_fit 5 = .ok (.aload_n 0, 1) := dk_42 (dk_at dksX8_fit_0 5 rfl rfl)
theorem dX8_fit_6 : decode cX8_fit 6 = .ok (.iload_n 1, 1) := dk_27 (dk_at dksX8_fit_0 6 rfl rfl)
theorem dX8_fit_7 : decode cX8_fit 7 = .ok (.invokevirtual 91, 3) := dk_182 0 91 (dk_at dksX8_fit_0 7 rfl rfl)
theorem dX8_fit_10 : decode cX8_fit 10 = .ok (.ifCond .ne 9, 3) := dk_154 0 9 (dk_at dksX8_fit_0 10 rfl rfl)
theorem dX8_fit_13 : decode cX8_fit 13 = .ok (.aload_n 0, 1) := dk_42 (dk_at dksX8_fit_0 13 rfl rfl)
theorem dX8_fit_14 : decode cX8_fit 14 = .ok (.iconst 1, 1) := dk_4 (dk_at dksX8_fit_0 14 rfl rfl)
theorem dX8_fit_15 : decode cX8_fit 15 = .ok (.invokevirtual 83, 3) := dk_182 0 83 (dk_at dksX8_fit_0 15 rfl rfl)
theorem dX8_fit_18 : decode cX8_fit 18 = .ok (.ireturn, 1) := dk_172 (dk_at dksX8_fit_0 18 rfl rfl)
theorem dX8_fit_19 : decode cX8_fit 19 = .ok (.aload_n 0, 1) := dk_42 (dk_at dksX8_fit_0 19 rfl rfl)
theorem dX8_fit_20 : decode cX8_fit 20 = .ok (.iconst 1, 1) := dk_4 (dk_at dksX8_fit_0 20 rfl rfl)
theorem dX8_fit_21 : decode cX8_fit 21 = .ok (.putfield 257, 3) := dk_181 1 1 (dk_at dksX8_fit_0 21 rfl rfl)
theorem dX8_fit_24 : decode cX8_fit 24 = .ok (.iconst 1, 1) := dk_4 (dk_at dksX8_fit_1 0 rfl rfl)
theorem dX8_fit_25 : decode cX8_fit 25 = .ok (.istore_n 2, 1) := dk_61 (dk_at dksX8_fit_1 1 rfl rfl)
theorem dX8_fit_26 : decode cX8_fit 26 = .ok (.iload_n 2, 1) := dk_28 (dk_at dksX8_fit_1 2 rfl rfl)
theorem dX8_fit_27 : decode cX8_fit 27 = .ok (.aload_n 0, 1) := dk_42 (dk_at dksX8_fit_1 3 rfl rfl)
theorem dX8_fit_28 : decode cX8_fit 28 = .ok (.getfield 9, 3) := dk_180 0 9 (dk_at dksX8_fit_1 4 rfl rfl)
theorem dX8_fit_31 : decode cX8_fit 31 = .ok (.iconst 5, 1) := dk_8 (dk_at dksX8_fit_1 7 rfl rfl)
theorem dX8_fit_32 : decode cX8_fit 32 = .ok (.iaload, 1) := dk_46 (dk_at dksX8_fit_1 8 rfl rfl)
theorem dX8_fit_33 : decode cX8_fit 33 = .ok (.if_icmp .ge 26, 3) := dk_162 0 26 (dk_at dksX8_fit_1 9 rfl rfl)
theorem dX8_fit_36 : decode cX8_fit 36 = .ok (.aload_n 0, 1) := dk_42 (dk_at dksX8_fit_1 12 rfl rfl)
theorem dX8_fit_37 : decode cX8_fit 37 = .ok (.iload_n 1, 1) := dk_27 (dk_at dksX8_fit_1 13 rfl rfl)
theorem dX8_fit_38 : decode cX8_fit 38 = .ok (.iload_n 2, 1) := dk_28 (dk_at dksX8_fit_1 14 rfl rfl)
theorem dX8_fit_39 : decode cX8_fit 39 = .ok (.invokevirtual 295, 3) := dk_182 1 39 (dk_at dksX8_fit_1 15 rfl rfl)
theorem dX8_fit_42 : decode cX8_fit 42 = .ok (.aload_n 0, 1) := dk_42 (dk_at dksX8_fit_1 18 rfl rfl)
theorem dX8_fit_43 : decode cX8_fit 43 = .ok (.iload_n 1, 1) := dk_27 (dk_at dksX8_fit_1 19 rfl rfl)
theorem dX8_fit_44 : decode cX8_fit 44 = .ok (.iload_n 2, 1) := dk_28 (dk_at dksX8_fit_1 20 rfl rfl)
theorem dX8_fit_45 : decode cX8_fit 45 = .ok (.invokevirtual 266, 3) := dk_182 1 10 (dk_at dksX8_fit_1 21 rfl rfl)
theorem dX8_fit_48 : decode cX8_fit 48 = .ok (.if_icmp .eq 5, 3) := dk_159 0 5 (dk_at dksX8_fit_2 0 rfl rfl)
theorem dX8_fit_51 : decode cX8_fit 51 = .ok (.iload_n 2, 1) := dk_28 (dk_at dksX8_fit_2 3 rfl rfl)
theorem dX8_fit_52 : decode cX8_fit 52 = .ok (.ireturn, 1) := dk_172 (dk_at dksX8_fit_2 4 rfl rfl)
theorem dX8_fit_53 : decode cX8_fit 53 = .ok (.iinc 2 1, 3) := dk_132 2 1 (dk_at dksX8_fit_2 5 rfl rfl)
theorem dX8_fit_56 : decode cX8_fit 56 = .ok (.goto (-30), 3) := dk_167 255 226 (dk_at dksX8_fit_2 8 rfl rfl)
theorem dX8_fit_59 : decode cX8_fit 59 = .ok (.iconst (-1), 1) := dk_2 (dk_at dksX8_fit_2 11 rfl rfl)
theorem dX8_fit_60 : decode cX8_fit 60 = .ok (.ireturn, 1) := dk_172 (dk_at dksX8_fit_2 12 rfl rfl)
abbrev cX8_tray : ByteArray := prog_29_method_101_code
def yX8_tray : MethodName := ⟨RX8, "tray", "(III)V"⟩
def dkwX8_tray_4 : List UInt8 := [177]
abbrev dktX8_tray_4 : List UInt8 := dkwX8_tray_4 ++ []
def dkwX8_tray_3 : List UInt8 := [16, 28, 162, 0, 22, 42, 180, 0, 73, 16, 28, 27, 104, 21, 4, 96, 9, 80, 132, 4, 1, 167, 255, 233]
abbrev dktX8_tray_3 : List UInt8 := dkwX8_tray_3 ++ dktX8_tray_4
def dkwX8_tray_2 : List UInt8 := [158, 0, 4, 177, 42, 180, 0, 67, 27, 28, 79, 42, 180, 0, 70, 27, 29, 79, 3, 54, 4, 21, 4]
abbrev dktX8_tray_2 : List UInt8 := dkwX8_tray_2 ++ dktX8_tray_3
def dkwX8_tray_1 : List UInt8 := [29, 133, 9, 20, 1, 164, 184, 0, 79, 154, 0, 7, 5, 167, 0, 4, 3, 181, 0, 76, 42, 180, 0, 76]
abbrev dktX8_tray_1 : List UInt8 := dkwX8_tray_1 ++ dktX8_tray_2
def dkwX8_tray_0 : List UInt8 := [42, 27, 184, 1, 151, 154, 0, 7, 4, 167, 0, 32, 28, 133, 9, 20, 0, 89, 184, 0, 79, 153, 0, 15]
abbrev dktX8_tray_0 : List UInt8 := dkwX8_tray_0 ++ dktX8_tray_1
theorem dksX8_tray_0 : cX8_tray.data.toList.drop 0 = dktX8_tray_0 := by decide +kernel
theorem dksX8_tray_1 : cX8_tray.data.toList.drop 24 = dktX8_tray_1 := dk_seg dksX8_tray_0 24 rfl rfl
theorem dksX8_tray_2 : cX8_tray.data.toList.drop 48 = dktX8_tray_2 := dk_seg dksX8_tray_1 24 rfl rfl
theorem dksX8_tray_3 : cX8_tray.data.toList.drop 71 = dktX8_tray_3 := dk_seg dksX8_tray_2 23 rfl rfl
theorem dksX8_tray_4 : cX8_tray.data.toList.drop 95 = dktX8_tray_4 := dk_seg dksX8_tray_3 24 rfl rfl
theorem dX8_tray_0 : decode cX8_tray 0 = .ok (.aload_n 0, 1) := dk_42 (dk_at dksX8_tray_0 0 rfl rfl)
theorem dX8_tray_1 : decode cX8_tray 1 = .ok (.iload_n 1, 1) := dk_27 (dk_at dksX8_tray_0 1 rfl rfl)
theorem dX8_tray_2 : decode cX8_tray 2 = .ok (.invokestatic 407, 3) := dk_184 1 151 (dk_at dksX8_tray_0 2 rfl rfl)
theorem dX8_tray_5 : decode cX8_tray 5 = .ok (.ifCond .ne 7, 3) := dk_154 0 7 (dk_at dksX8_tray_0 5 rfl rfl)
theorem dX8_tray_8 : decode cX8_tray 8 = .ok (.iconst 1, 1) := dk_4 (dk_at dksX8_tray_0 8 rfl rfl)
theorem dX8_tray_9 : decode cX8_tray 9 = .ok (.goto 32, 3) := dk_167 0 32 (dk_at dksX8_tray_0 9 rfl rfl)
theorem dX8_tray_12 : decode cX8_tray 12 = .ok (.iload_n 2, 1) := dk_28 (dk_at dksX8_tray_0 12 rfl rfl)
theorem dX8_tray_13 : decode cX8_tray 13 = .ok (.i2l, 1) := dk_133 (dk_at dksX8_tray_0 13 rfl rfl)
theorem dX8_tray_14 : decode cX8_tray 14 = .ok (.lconst 0, 1) := dk_9 (dk_at dksX8_tray_0 14 rfl rfl)
theorem dX8_tray_15 : decode cX8_tray 15 = .ok (.ldc2_w 89, 3) := dk_20 0 89 (dk_at dksX8_tray_0 15 rfl rfl)
theorem dX8_tray_18 : decode cX8_tray 18 = .ok (.invokestatic 79, 3) := dk_184 0 79 (dk_at dksX8_tray_0 18 rfl rfl)
theorem dX8_tray_21 : decode cX8_tray 21 = .ok (.ifCond .eq 15, 3) := dk_153 0 15 (dk_at dksX8_tray_0 21 rfl rfl)
theorem dX8_tray_24 : decode cX8_tray 24 = .ok (.iload_n 3, 1) := dk_29 (dk_at dksX8_tray_1 0 rfl rfl)
theorem dX8_tray_25 : decode cX8_tray 25 = .ok (.i2l, 1) := dk_133 (dk_at dksX8_tray_1 1 rfl rfl)
theorem dX8_tray_26 : decode cX8_tray 26 = .ok (.lconst 0, 1) := dk_9 (dk_at dksX8_tray_1 2 rfl rfl)
theorem dX8_tray_27 : decode cX8_tray 27 = .ok (.ldc2_w 420, 3) := dk_20 1 164 (dk_at dksX8_tray_1 3 rfl rfl)
theorem dX8_tray_30 : decode cX8_tray 30 = .ok (.invokestatic 79, 3) := dk_184 0 79 (dk_at dksX8_tray_1 6 rfl rfl)
theorem dX8_tray_33 : decode cX8_tray 33 = .ok (.ifCond .ne 7, 3) := dk_154 0 7 (dk_at dksX8_tray_1 9 rfl rfl)
theorem dX8_tray_36 : decode cX8_tray 36 = .ok (.iconst 2, 1) := dk_5 (dk_at dksX8_tray_1 12 rfl rfl)
theorem dX8_tray_37 : decode cX8_tray 37 = .ok (.goto 4, 3) := dk_167 0 4 (dk_at dksX8_tray_1 13 rfl rfl)
theorem dX8_tray_40 : decode cX8_tray 40 = .ok (.iconst 0, 1) := dk_3 (dk_at dksX8_tray_1 16 rfl rfl)
theorem dX8_tray_41 : decode cX8_tray 41 = .ok (.putfield 76, 3) := dk_181 0 76 (dk_at dksX8_tray_1 17 rfl rfl)
theorem dX8_tray_44 : decode cX8_tray 44 = .ok (.aload_n 0, 1) := dk_42 (dk_at dksX8_tray_1 20 rfl rfl)
theorem dX8_tray_45 : decode cX8_tray 45 = .ok (.getfield 76, 3) := dk_180 0 76 (dk_at dksX8_tray_1 21 rfl rfl)
theorem dX8_tray_48 : decode cX8_tray 48 = .ok (.ifCond .le 4, 3) := dk_158 0 4 (dk_at dksX8_tray_2 0 rfl rfl)
theorem dX8_tray_51 : decode cX8_tray 51 = .ok (.return_, 1) := dk_177 (dk_at dksX8_tray_2 3 rfl rfl)
theorem dX8_tray_52 : decode cX8_tray 52 = .ok (.aload_n 0, 1) := dk_42 (dk_at dksX8_tray_2 4 rfl rfl)
theorem dX8_tray_53 : decode cX8_tray 53 = .ok (.getfield 67, 3) := dk_180 0 67 (dk_at dksX8_tray_2 5 rfl rfl)
theorem dX8_tray_56 : decode cX8_tray 56 = .ok (.iload_n 1, 1) := dk_27 (dk_at dksX8_tray_2 8 rfl rfl)
theorem dX8_tray_57 : decode cX8_tray 57 = .ok (.iload_n 2, 1) := dk_28 (dk_at dksX8_tray_2 9 rfl rfl)
theorem dX8_tray_58 : decode cX8_tray 58 = .ok (.iastore, 1) := dk_79 (dk_at dksX8_tray_2 10 rfl rfl)
theorem dX8_tray_59 : decode cX8_tray 59 = .ok (.aload_n 0, 1) := dk_42 (dk_at dksX8_tray_2 11 rfl rfl)
theorem dX8_tray_60 : decode cX8_tray 60 = .ok (.getfield 70, 3) := dk_180 0 70 (dk_at dksX8_tray_2 12 rfl rfl)
theorem dX8_tray_63 : decode cX8_tray 63 = .ok (.iload_n 1, 1) := dk_27 (dk_at dksX8_tray_2 15 rfl rfl)
theorem dX8_tray_64 : decode cX8_tray 64 = .ok (.iload_n 3, 1) := dk_29 (dk_at dksX8_tray_2 16 rfl rfl)
theorem dX8_tray_65 : decode cX8_tray 65 = .ok (.iastore, 1) := dk_79 (dk_at dksX8_tray_2 17 rfl rfl)
theorem dX8_tray_66 : decode cX8_tray 66 = .ok (.iconst 0, 1) := dk_3 (dk_at dksX8_tray_2 18 rfl rfl)
theorem dX8_tray_67 : decode cX8_tray 67 = .ok (.istore 4, 2) := dk_54 4 (dk_at dksX8_tray_2 19 rfl rfl)
theorem dX8_tray_69 : decode cX8_tray 69 = .ok (.iload 4, 2) := dk_21 4 (dk_at dksX8_tray_2 21 rfl rfl)
theorem dX8_tray_71 : decode cX8_tray 71 = .ok (.bipush 28, 2) := dk_16 28 (dk_at dksX8_tray_3 0 rfl rfl)
theorem dX8_tray_73 : decode cX8_tray 73 = .ok (.if_icmp .ge 22, 3) := dk_162 0 22 (dk_at dksX8_tray_3 2 rfl rfl)
theorem dX8_tray_76 : decode cX8_tray 76 = .ok (.aload_n 0, 1) := dk_42 (dk_at dksX8_tray_3 5 rfl rfl)
theorem dX8_tray_77 : decode cX8_tray 77 = .ok (.getfield 73, 3) := dk_180 0 73 (dk_at dksX8_tray_3 6 rfl rfl)
theorem dX8_tray_80 : decode cX8_tray 80 = .ok (.bipush 28, 2) := dk_16 28 (dk_at dksX8_tray_3 9 rfl rfl)
theorem dX8_tray_82 : decode cX8_tray 82 = .ok (.iload_n 1, 1) := dk_27 (dk_at dksX8_tray_3 11 rfl rfl)
theorem dX8_tray_83 : decode cX8_tray 83 = .ok (.imul, 1) := dk_104 (dk_at dksX8_tray_3 12 rfl rfl)
theorem dX8_tray_84 : decode cX8_tray 84 = .ok (.iload 4, 2) := dk_21 4 (dk_at dksX8_tray_3 13 rfl rfl)
theorem dX8_tray_86 : decode cX8_tray 86 = .ok (.iadd, 1) := dk_96 (dk_at dksX8_tray_3 15 rfl rfl)
theorem dX8_tray_87 : decode cX8_tray 87 = .ok (.lconst 0, 1) := dk_9 (dk_at dksX8_tray_3 16 rfl rfl)
theorem dX8_tray_88 : decode cX8_tray 88 = .ok (.lastore, 1) := dk_80 (dk_at dksX8_tray_3 17 rfl rfl)
theorem dX8_tray_89 : decode cX8_tray 89 = .ok (.iinc 4 1, 3) := dk_132 4 1 (dk_at dksX8_tray_3 18 rfl rfl)
theorem dX8_tray_92 : decode cX8_tray 92 = .ok (.goto (-23), 3) := dk_167 255 233 (dk_at dksX8_tray_3 21 rfl rfl)
theorem dX8_tray_95 : decode cX8_tray 95 = .ok (.return_, 1) := dk_177 (dk_at dksX8_tray_4 0 rfl rfl)
abbrev cX8_write : ByteArray := prog_29_method_102_code
def yX8_write : MethodName := ⟨RX8, "write", "(IIJ)J"⟩
def dkwX8_write_4 : List UInt8 := [180, 0, 73, 16, 28, 27, 104, 28, 96, 47, 173]
abbrev dktX8_write_4 : List UInt8 := dkwX8_write_4 ++ []
def dkwX8_write_3 : List UInt8 := [100, 54, 5, 42, 180, 0, 73, 16, 28, 27, 104, 28, 96, 33, 21, 5, 121, 21, 5, 123, 80, 42]
abbrev dktX8_write_3 : List UInt8 := dkwX8_write_3 ++ dktX8_write_4
def dkwX8_write_2 : List UInt8 := [184, 0, 79, 154, 0, 10, 42, 6, 182, 0, 83, 133, 173, 16, 64, 16, 8, 42, 180, 0, 67, 27, 46, 120]
abbrev dktX8_write_2 : List UInt8 := dkwX8_write_2 ++ dktX8_write_3
def dkwX8_write_1 : List UInt8 := [46, 2, 160, 0, 10, 42, 5, 182, 0, 83, 133, 173, 28, 133, 9, 42, 180, 0, 70, 27, 46, 4, 100, 133]
abbrev dktX8_write_1 : List UInt8 := dkwX8_write_1 ++ dktX8_write_2
def dkwX8_write_0 : List UInt8 := [42, 3, 181, 0, 76, 27, 184, 1, 151, 154, 0, 10, 42, 4, 182, 0, 83, 133, 173, 42, 180, 0, 67, 27]
abbrev dktX8_write_0 : List UInt8 := dkwX8_write_0 ++ dktX8_write_1
theorem dksX8_write_0 : cX8_write.data.toList.drop 0 = dktX8_write_0 := by decide +kernel
theorem dksX8_write_1 : cX8_write.data.toList.drop 24 = dktX8_write_1 := dk_seg dksX8_write_0 24 rfl rfl
theorem dksX8_write_2 : cX8_write.data.toList.drop 48 = dktX8_write_2 := dk_seg dksX8_write_1 24 rfl rfl
theorem dksX8_write_3 : cX8_write.data.toList.drop 72 = dktX8_write_3 := dk_seg dksX8_write_2 24 rfl rfl
theorem dksX8_write_4 : cX8_write.data.toList.drop 94 = dktX8_write_4 := dk_seg dksX8_write_3 22 rfl rfl
theorem dX8_write_0 : decode cX8_write 0 = .ok (.aload_n 0, 1) := dk_42 (dk_at dksX8_write_0 0 rfl rfl)
theorem dX8_write_1 : decode cX8_write 1 = .ok (.iconst 0, 1) := dk_3 (dk_at dksX8_write_0 1 rfl rfl)
theorem dX8_write_2 : decode cX8_write 2 = .ok (.putfield 76, 3) := dk_181 0 76 (dk_at dksX8_write_0 2 rfl rfl)
theorem dX8_write_5 : decode cX8_write 5 = .ok (.iload_n 1, 1) := dk_27 (dk_at dksX8_write_0 5 rfl rfl)
theorem dX8_write_6 : decode cX8_write 6 = .ok (.invokestatic 407, 3) := dk_184 1 151 (dk_at dksX8_write_0 6 rfl rfl)
theorem dX8_write_9 : decode cX8_write 9 = .ok (.ifCond .ne 10, 3) := dk_154 0 10 (dk_at dksX8_write_0 9 rfl rfl)
theorem dX8_write_12 : decode cX8_write 12 = .ok (.aload_n 0, 1) := dk_42 (dk_at dksX8_write_0 12 rfl rfl)
theorem dX8_write_13 : decode cX8_write 13 = .ok (.iconst 1, 1) := dk_4 (dk_at dksX8_write_0 13 rfl rfl)
theorem dX8_write_14 : decode cX8_write 14 = .ok (.invokevirtual 83, 3) := dk_182 0 83 (dk_at dksX8_write_0 14 rfl rfl)
theorem dX8_write_17 : decode cX8_write 17 = .ok (.i2l, 1) := dk_133 (dk_at dksX8_write_0 17 rfl rfl)
theorem dX8_write_18 : decode cX8_write 18 = .ok (.lreturn, 1) := dk_173 (dk_at dksX8_write_0 18 rfl rfl)
theorem dX8_write_19 : decode cX8_write 19 = .ok (.aload_n 0, 1) := dk_42 (dk_at dksX8_write_0 19 rfl rfl)
theorem dX8_write_20 : decode cX8_write 20 = .ok (.getfield 67, 3) := dk_180 0 67 (dk_at dksX8_write_0 20 rfl rfl)
theorem dX8_write_23 : decode cX8_write 23 = .ok (.iload_n 1, 1) := dk_27 (dk_at dksX8_write_0 23 rfl rfl)
theorem dX8_write_24 : decode cX8_write 24 = .ok (.iaload, 1) := dk_46 (dk_at dksX8_write_1 0 rfl rfl)
theorem dX8_write_25 : decode cX8_write 25 = .ok (.iconst (-1), 1) := dk_2 (dk_at dksX8_write_1 1 rfl rfl)
theorem dX8_write_26 : decode cX8_write 26 = .ok (.if_icmp .ne 10, 3) := dk_160 0 10 (dk_at dksX8_write_1 2 rfl rfl)
theorem dX8_write_29 : decode cX8_write 29 = .ok (.aload_n 0, 1) := dk_42 (dk_at dksX8_write_1 5 rfl rfl)
theorem dX8_write_30 : decode cX8_write 30 = .ok (.iconst 2, 1) := dk_5 (dk_at dksX8_write_1 6 rfl rfl)
theorem dX8_write_31 : decode cX8_write 31 = .ok (.invokevirtual 83, 3) := dk_182 0 83 (dk_at dksX8_write_1 7 rfl rfl)
theorem dX8_write_34 : decode cX8_write 34 = .ok (.i2l, 1) := dk_133 (dk_at dksX8_write_1 10 rfl rfl)
theorem dX8_write_35 : decode cX8_write 35 = .ok (.lreturn, 1) := dk_173 (dk_at dksX8_write_1 11 rfl rfl)
theorem dX8_write_36 : decode cX8_write 36 = .ok (.iload_n 2, 1) := dk_28 (dk_at dksX8_write_1 12 rfl rfl)
theorem dX8_write_37 : decode cX8_write 37 = .ok (.i2l, 1) := dk_133 (dk_at dksX8_write_1 13 rfl rfl)
theorem dX8_write_38 : decode cX8_write 38 = .ok (.lconst 0, 1) := dk_9 (dk_at dksX8_write_1 14 rfl rfl)
theorem dX8_write_39 : decode cX8_write 39 = .ok (.aload_n 0, 1) := dk_42 (dk_at dksX8_write_1 15 rfl rfl)
theorem dX8_write_40 : decode cX8_write 40 = .ok (.getfield 70, 3) := dk_180 0 70 (dk_at dksX8_write_1 16 rfl rfl)
theorem dX8_write_43 : decode cX8_write 43 = .ok (.iload_n 1, 1) := dk_27 (dk_at dksX8_write_1 19 rfl rfl)
theorem dX8_write_44 : decode cX8_write 44 = .ok (.iaload, 1) := dk_46 (dk_at dksX8_write_1 20 rfl rfl)
theorem dX8_write_45 : decode cX8_write 45 = .ok (.iconst 1, 1) := dk_4 (dk_at dksX8_write_1 21 rfl rfl)
theorem dX8_write_46 : decode cX8_write 46 = .ok (.isub, 1) := dk_100 (dk_at dksX8_write_1 22 rfl rfl)
theorem dX8_write_47 : decode cX8_write 47 = .ok (.i2l, 1) := dk_133 (dk_at dksX8_write_1 23 rfl rfl)
theorem dX8_write_48 : decode cX8_write 48 = .ok (.invokestatic 79, 3) := dk_184 0 79 (dk_at dksX8_write_2 0 rfl rfl)
theorem dX8_write_51 : decode cX8_write 51 = .ok (.ifCond .ne 10, 3) := dk_154 0 10 (dk_at dksX8_write_2 3 rfl rfl)
theorem dX8_write_54 : decode cX8_write 54 = .ok (.aload_n 0, 1) := dk_42 (dk_at dksX8_write_2 6 rfl rfl)
theorem dX8_write_55 : decode cX8_write 55 = .ok (.iconst 3, 1) := dk_6 (dk_at dksX8_write_2 7 rfl rfl)
theorem dX8_write_56 : decode cX8_write 56 = .ok (.invokevirtual 83, 3) := dk_182 0 83 (dk_at dksX8_write_2 8 rfl rfl)
theorem dX8_write_59 : decode cX8_write 59 = .ok (.i2l, 1) := dk_133 (dk_at dksX8_write_2 11 rfl rfl)
theorem dX8_write_60 : decode cX8_write 60 = .ok (.lreturn, 1) := dk_173 (dk_at dksX8_write_2 12 rfl rfl)
theorem dX8_write_61 : decode cX8_write 61 = .ok (.bipush 64, 2) := dk_16 64 (dk_at dksX8_write_2 13 rfl rfl)
theorem dX8_write_63 : decode cX8_write 63 = .ok (.bipush 8, 2) := dk_16 8 (dk_at dksX8_write_2 15 rfl rfl)
theorem dX8_write_65 : decode cX8_write 65 = .ok (.aload_n 0, 1) := dk_42 (dk_at dksX8_write_2 17 rfl rfl)
theorem dX8_write_66 : decode cX8_write 66 = .ok (.getfield 67, 3) := dk_180 0 67 (dk_at dksX8_write_2 18 rfl rfl)
theorem dX8_write_69 : decode cX8_write 69 = .ok (.iload_n 1, 1) := dk_27 (dk_at dksX8_write_2 21 rfl rfl)
theorem dX8_write_70 : decode cX8_write 70 = .ok (.iaload, 1) := dk_46 (dk_at dksX8_write_2 22 rfl rfl)
theorem dX8_write_71 : decode cX8_write 71 = .ok (.ishl, 1) := dk_120 (dk_at dksX8_write_2 23 rfl rfl)
theorem dX8_write_72 : decode cX8_write 72 = .ok (.isub, 1) := dk_100 (dk_at dksX8_write_3 0 rfl rfl)
theorem dX8_write_73 : decode cX8_write 73 = .ok (.istore 5, 2) := dk_54 5 (dk_at dksX8_write_3 1 rfl rfl)
theorem dX8_write_75 : decode cX8_write 75 = .ok (.aload_n 0, 1) := dk_42 (dk_at dksX8_write_3 3 rfl rfl)
theorem dX8_write_76 : decode cX8_write 76 = .ok (.getfield 73, 3) := dk_180 0 73 (dk_at dksX8_write_3 4 rfl rfl)
theorem dX8_write_79 : decode cX8_write 79 = .ok (.bipush 28, 2) := dk_16 28 (dk_at dksX8_write_3 7 rfl rfl)
theorem dX8_write_81 : decode cX8_write 81 = .ok (.iload_n 1, 1) := dk_27 (dk_at dksX8_write_3 9 rfl rfl)
theorem dX8_write_82 : decode cX8_write 82 = .ok (.imul, 1) := dk_104 (dk_at dksX8_write_3 10 rfl rfl)
theorem dX8_write_83 : decode cX8_write 83 = .ok (.iload_n 2, 1) := dk_28 (dk_at dksX8_write_3 11 rfl rfl)
theorem dX8_write_84 : decode cX8_write 84 = .ok (.iadd, 1) := dk_96 (dk_at dksX8_write_3 12 rfl rfl)
theorem dX8_write_85 : decode cX8_write 85 = .ok (.lload_n 3, 1) := dk_33 (dk_at dksX8_write_3 13 rfl rfl)
theorem dX8_write_86 : decode cX8_write 86 = .ok (.iload 5, 2) := dk_21 5 (dk_at dksX8_write_3 14 rfl rfl)
theorem dX8_write_88 : decode cX8_write 88 = .ok (.lshl, 1) := dk_121 (dk_at dksX8_write_3 16 rfl rfl)
theorem dX8_write_89 : decode cX8_write 89 = .ok (.iload 5, 2) := dk_21 5 (dk_at dksX8_write_3 17 rfl rfl)
theorem dX8_write_91 : decode cX8_write 91 = .ok (.lshr, 1) := dk_123 (dk_at dksX8_write_3 19 rfl rfl)
theorem dX8_write_92 : decode cX8_write 92 = .ok (.lastore, 1) := dk_80 (dk_at dksX8_write_3 20 rfl rfl)
theorem dX8_write_93 : decode cX8_write 93 = .ok (.aload_n 0, 1) := dk_42 (dk_at dksX8_write_3 21 rfl rfl)
theorem dX8_write_94 : decode cX8_write 94 = .ok (.getfield 73, 3) := dk_180 0 73 (dk_at dksX8_write_4 0 rfl rfl)
theorem dX8_write_97 : decode cX8_write 97 = .ok (.bipush 28, 2) := dk_16 28 (dk_at dksX8_write_4 3 rfl rfl)
theorem dX8_write_99 : decode cX8_write 99 = .ok (.iload_n 1, 1) := dk_27 (dk_at dksX8_write_4 5 rfl rfl)
theorem dX8_write_100 : decode cX8_write 100 = .ok (.imul, 1) := dk_104 (dk_at dksX8_write_4 6 rfl rfl)
theorem dX8_write_101 : decode cX8_write 101 = .ok (.iload_n 2, 1) := dk_28 (dk_at dksX8_write_4 7 rfl rfl)
theorem dX8_write_102 : decode cX8_write 102 = .ok (.iadd, 1) := dk_96 (dk_at dksX8_write_4 8 rfl rfl)
theorem dX8_write_103 : decode cX8_write 103 = .ok (.laload, 1) := dk_47 (dk_at dksX8_write_4 9 rfl rfl)
theorem dX8_write_104 : decode cX8_write 104 = .ok (.lreturn, 1) := dk_173 (dk_at dksX8_write_4 10 rfl rfl)
abbrev cX8_image : ByteArray := prog_29_method_103_code
def yX8_image : MethodName := ⟨RX8, "image", "(I)V"⟩
def dkwX8_image_4 : List UInt8 := [132, 2, 1, 167, 255, 230, 177]
abbrev dktX8_image_4 : List UInt8 := dkwX8_image_4 ++ []
def dkwX8_image_3 : List UInt8 := [61, 28, 16, 9, 162, 0, 26, 42, 180, 0, 20, 16, 9, 27, 104, 28, 96, 42, 180, 0, 16, 28, 47, 80]
abbrev dktX8_image_3 : List UInt8 := dkwX8_image_3 ++ dktX8_image_4
def dkwX8_image_2 : List UInt8 := [180, 0, 13, 17, 12, 107, 27, 104, 28, 96, 42, 180, 0, 9, 28, 46, 79, 132, 2, 1, 167, 255, 228, 3]
abbrev dktX8_image_2 : List UInt8 := dkwX8_image_2 ++ dktX8_image_3
def dkwX8_image_1 : List UInt8 := [180, 0, 76, 158, 0, 4, 177, 42, 180, 0, 23, 27, 4, 84, 3, 61, 28, 17, 12, 107, 162, 0, 27, 42]
abbrev dktX8_image_1 : List UInt8 := dkwX8_image_1 ++ dktX8_image_2
def dkwX8_image_0 : List UInt8 := [42, 27, 133, 9, 20, 1, 58, 184, 0, 79, 153, 0, 7, 3, 167, 0, 4, 4, 181, 0, 76, 42]
abbrev dktX8_image_0 : List UInt8 := dkwX8_image_0 ++ dktX8_image_1
theorem dksX8_image_0 : cX8_image.data.toList.drop 0 = dktX8_image_0 := by decide +kernel
theorem dksX8_image_1 : cX8_image.data.toList.drop 22 = dktX8_image_1 := dk_seg dksX8_image_0 22 rfl rfl
theorem dksX8_image_2 : cX8_image.data.toList.drop 46 = dktX8_image_2 := dk_seg dksX8_image_1 24 rfl rfl
theorem dksX8_image_3 : cX8_image.data.toList.drop 70 = dktX8_image_3 := dk_seg dksX8_image_2 24 rfl rfl
theorem dksX8_image_4 : cX8_image.data.toList.drop 94 = dktX8_image_4 := dk_seg dksX8_image_3 24 rfl rfl
theorem dX8_image_0 : decode cX8_image 0 = .ok (.aload_n 0, 1) := dk_42 (dk_at dksX8_image_0 0 rfl rfl)
theorem dX8_image_1 : decode cX8_image 1 = .ok (.iload_n 1, 1) := dk_27 (dk_at dksX8_image_0 1 rfl rfl)
theorem dX8_image_2 : decode cX8_image 2 = .ok (.i2l, 1) := dk_133 (dk_at dksX8_image_0 2 rfl rfl)
theorem dX8_image_3 : decode cX8_image 3 = .ok (.lconst 0, 1) := dk_9 (dk_at dksX8_image_0 3 rfl rfl)
theorem dX8_image_4 : decode cX8_image 4 = .ok (.ldc2_w 314, 3) := dk_20 1 58 (dk_at dksX8_image_0 4 rfl rfl)
theorem dX8_image_7 : decode cX8_image 7 = .ok (.invokestatic 79, 3) := dk_184 0 79 (dk_at dksX8_image_0 7 rfl rfl)
theorem dX8_image_10 : decode cX8_image 10 = .ok (.ifCond .eq 7, 3) := dk_153 0 7 (dk_at dksX8_image_0 10 rfl rfl)
theorem dX8_image_13 : decode cX8_image 13 = .ok (.iconst 0, 1) := dk_3 (dk_at dksX8_image_0 13 rfl rfl)
theorem dX8_image_14 : decode cX8_image 14 = .ok (.goto 4, 3) := dk_167 0 4 (dk_at dksX8_image_0 14 rfl rfl)
theorem dX8_image_17 : decode cX8_image 17 = .ok (.iconst 1, 1) := dk_4 (dk_at dksX8_image_0 17 rfl rfl)
theorem dX8_image_18 : decode cX8_image 18 = .ok (.putfield 76, 3) := dk_181 0 76 (dk_at dksX8_image_0 18 rfl rfl)
theorem dX8_image_21 : decode cX8_image 21 = .ok (.aload_n 0, 1) := dk_42 (dk_at dksX8_image_0 21 rfl rfl)
theorem dX8_image_22 : decode cX8_image 22 = .ok (.getfield 76, 3) := dk_180 0 76 (dk_at dksX8_image_1 0 rfl rfl)
theorem dX8_image_25 : decode cX8_image 25 = .ok (.ifCond .le 4, 3) := dk_158 0 4 (dk_at dksX8_image_1 3 rfl rfl)
theorem dX8_image_28 : decode cX8_image 28 = .ok (.return_, 1) := dk_177 (dk_at dksX8_image_1 6 rfl rfl)
theorem dX8_image_29 : decode cX8_image 29 = .ok (.aload_n 0, 1) := dk_42 (dk_at dksX8_image_1 7 rfl rfl)
theorem dX8_image_30 : decode cX8_image 30 = .ok (.getfield 23, 3) := dk_180 0 23 (dk_at dksX8_image_1 8 rfl rfl)
theorem dX8_image_33 : decode cX8_image 33 = .ok (.iload_n 1, 1) := dk_27 (dk_at dksX8_image_1 11 rfl rfl)
theorem dX8_image_34 : decode cX8_image 34 = .ok (.iconst 1, 1) := dk_4 (dk_at dksX8_image_1 12 rfl rfl)
theorem dX8_image_35 : decode cX8_image 35 = .ok (.bastore, 1) := dk_84 (dk_at dksX8_image_1 13 rfl rfl)
theorem dX8_image_36 : decode cX8_image 36 = .ok (.iconst 0, 1) := dk_3 (dk_at dksX8_image_1 14 rfl rfl)
theorem dX8_image_37 : decode cX8_image 37 = .ok (.istore_n 2, 1) := dk_61 (dk_at dksX8_image_1 15 rfl rfl)
theorem dX8_image_38 : decode cX8_image 38 = .ok (.iload_n 2, 1) := dk_28 (dk_at dksX8_image_1 16 rfl rfl)
theorem dX8_image_39 : decode cX8_image 39 = .ok (.sipush 3179, 3) := dk_17 12 107 (dk_at dksX8_image_1 17 rfl rfl)
theorem dX8_image_42 : decode cX8_image 42 = .ok (.if_icmp .ge 27, 3) := dk_162 0 27 (dk_at dksX8_image_1 20 rfl rfl)
theorem dX8_image_45 : decode cX8_image 45 = .ok (.aload_n 0, 1) := dk_42 (dk_at dksX8_image_1 23 rfl rfl)
theorem dX8_image_46 : decode cX8_image 46 = .ok (.getfield 13, 3) := dk_180 0 13 (dk_at dksX8_image_2 0 rfl rfl)
theorem dX8_image_49 : decode cX8_image 49 = .ok (.sipush 3179, 3) := dk_17 12 107 (dk_at dksX8_image_2 3 rfl rfl)
theorem dX8_image_52 : decode cX8_image 52 = .ok (.iload_n 1, 1) := dk_27 (dk_at dksX8_image_2 6 rfl rfl)
theorem dX8_image_53 : decode cX8_image 53 = .ok (.imul, 1) := dk_104 (dk_at dksX8_image_2 7 rfl rfl)
theorem dX8_image_54 : decode cX8_image 54 = .ok (.iload_n 2, 1) := dk_28 (dk_at dksX8_image_2 8 rfl rfl)
theorem dX8_image_55 : decode cX8_image 55 = .ok (.iadd, 1) := dk_96 (dk_at dksX8_image_2 9 rfl rfl)
theorem dX8_image_56 : decode cX8_image 56 = .ok (.aload_n 0, 1) := dk_42 (dk_at dksX8_image_2 10 rfl rfl)
theorem dX8_image_57 : decode cX8_image 57 = .ok (.getfield 9, 3) := dk_180 0 9 (dk_at dksX8_image_2 11 rfl rfl)
theorem dX8_image_60 : decode cX8_image 60 = .ok (.iload_n 2, 1) := dk_28 (dk_at dksX8_image_2 14 rfl rfl)
theorem dX8_image_61 : decode cX8_image 61 = .ok (.iaload, 1) := dk_46 (dk_at dksX8_image_2 15 rfl rfl)
theorem dX8_image_62 : decode cX8_image 62 = .ok (.iastore, 1) := dk_79 (dk_at dksX8_image_2 16 rfl rfl)
theorem dX8_image_63 : decode cX8_image 63 = .ok (.iinc 2 1, 3) := dk_132 2 1 (dk_at dksX8_image_2 17 rfl rfl)
theorem dX8_image_66 : decode cX8_image 66 = .ok (.goto (-28), 3) := dk_167 255 228 (dk_at dksX8_image_2 20 rfl rfl)
theorem dX8_image_69 : decode cX8_image 69 = .ok (.iconst 0, 1) := dk_3 (dk_at dksX8_image_2 23 rfl rfl)
theorem dX8_image_70 : decode cX8_image 70 = .ok (.istore_n 2, 1) := dk_61 (dk_at dksX8_image_3 0 rfl rfl)
theorem dX8_image_71 : decode cX8_image 71 = .ok (.iload_n 2, 1) := dk_28 (dk_at dksX8_image_3 1 rfl rfl)
theorem dX8_image_72 : decode cX8_image 72 = .ok (.bipush 9, 2) := dk_16 9 (dk_at dksX8_image_3 2 rfl rfl)
theorem dX8_image_74 : decode cX8_image 74 = .ok (.if_icmp .ge 26, 3) := dk_162 0 26 (dk_at dksX8_image_3 4 rfl rfl)
theorem dX8_image_77 : decode cX8_image 77 = .ok (.aload_n 0, 1) := dk_42 (dk_at dksX8_image_3 7 rfl rfl)
theorem dX8_image_78 : decode cX8_image 78 = .ok (.getfield 20, 3) := dk_180 0 20 (dk_at dksX8_image_3 8 rfl rfl)
theorem dX8_image_81 : decode cX8_image 81 = .ok (.bipush 9, 2) := dk_16 9 (dk_at dksX8_image_3 11 rfl rfl)
theorem dX8_image_83 : decode cX8_image 83 = .ok (.iload_n 1, 1) := dk_27 (dk_at dksX8_image_3 13 rfl rfl)
theorem dX8_image_84 : decode cX8_image 84 = .ok (.imul, 1) := dk_104 (dk_at dksX8_image_3 14 rfl rfl)
theorem dX8_image_85 : decode cX8_image 85 = .ok (.iload_n 2, 1) := dk_28 (dk_at dksX8_image_3 15 rfl rfl)
theorem dX8_image_86 : decode cX8_image 86 = .ok (.iadd, 1) := dk_96 (dk_at dksX8_image_3 16 rfl rfl)
theorem dX8_image_87 : decode cX8_image 87 = .ok (.aload_n 0, 1) := dk_42 (dk_at dksX8_image_3 17 rfl rfl)
theorem dX8_image_88 : decode cX8_image 88 = .ok (.getfield 16, 3) := dk_180 0 16 (dk_at dksX8_image_3 18 rfl rfl)
theorem dX8_image_91 : decode cX8_image 91 = .ok (.iload_n 2, 1) := dk_28 (dk_at dksX8_image_3 21 rfl rfl)
theorem dX8_image_92 : decode cX8_image 92 = .ok (.laload, 1) := dk_47 (dk_at dksX8_image_3 22 rfl rfl)
theorem dX8_image_93 : decode cX8_image 93 = .ok (.lastore, 1) := dk_80 (dk_at dksX8_image_3 23 rfl rfl)
theorem dX8_image_94 : decode cX8_image 94 = .ok (.iinc 2 1, 3) := dk_132 2 1 (dk_at dksX8_image_4 0 rfl rfl)
theorem dX8_image_97 : decode cX8_image 97 = .ok (.goto (-26), 3) := dk_167 255 230 (dk_at dksX8_image_4 3 rfl rfl)
theorem dX8_image_100 : decode cX8_image 100 = .ok (.return_, 1) := dk_177 (dk_at dksX8_image_4 6 rfl rfl)
abbrev cX8_restore : ByteArray := prog_29_method_104_code
def yX8_restore : MethodName := ⟨RX8, "restore", "(I)V"⟩
def dkwX8_restore_4 : List UInt8 := [16, 9, 27, 104, 28, 96, 47, 80, 132, 2, 1, 167, 255, 230, 177]
abbrev dktX8_restore_4 : List UInt8 := dkwX8_restore_4 ++ []
def dkwX8_restore_3 : List UInt8 := [132, 2, 1, 167, 255, 228, 3, 61, 28, 16, 9, 162, 0, 26, 42, 180, 0, 16, 28, 42, 180, 0, 20]
abbrev dktX8_restore_3 : List UInt8 := dkwX8_restore_3 ++ dktX8_restore_4
def dkwX8_restore_2 : List UInt8 := [17, 12, 107, 162, 0, 27, 42, 180, 0, 9, 28, 42, 180, 0, 13, 17, 12, 107, 27, 104, 28, 96, 46, 79]
abbrev dktX8_restore_2 : List UInt8 := dkwX8_restore_2 ++ dktX8_restore_3
def dkwX8_restore_1 : List UInt8 := [154, 0, 7, 5, 167, 0, 4, 3, 181, 0, 76, 42, 180, 0, 76, 158, 0, 4, 177, 3, 61, 28]
abbrev dktX8_restore_1 : List UInt8 := dkwX8_restore_1 ++ dktX8_restore_2
def dkwX8_restore_0 : List UInt8 := [42, 27, 133, 9, 20, 1, 58, 184, 0, 79, 154, 0, 7, 4, 167, 0, 17, 42, 180, 0, 23, 27, 51]
abbrev dktX8_restore_0 : List UInt8 := dkwX8_restore_0 ++ dktX8_restore_1
theorem dksX8_restore_0 : cX8_restore.data.toList.drop 0 = dktX8_restore_0 := by decide +kernel
theorem dksX8_restore_1 : cX8_restore.data.toList.drop 23 = dktX8_restore_1 := dk_seg dksX8_restore_0 23 rfl rfl
theorem dksX8_restore_2 : cX8_restore.data.toList.drop 45 = dktX8_restore_2 := dk_seg dksX8_restore_1 22 rfl rfl
theorem dksX8_restore_3 : cX8_restore.data.toList.drop 69 = dktX8_restore_3 := dk_seg dksX8_restore_2 24 rfl rfl
theorem dksX8_restore_4 : cX8_restore.data.toList.drop 92 = dktX8_restore_4 := dk_seg dksX8_restore_3 23 rfl rfl
theorem dX8_restore_0 : decode cX8_restore 0 = .ok (.aload_n 0, 1) := dk_42 (dk_at dksX8_restore_0 0 rfl rfl)
theorem dX8_restore_1 : decode cX8_restore 1 = .ok (.iload_n 1, 1) := dk_27 (dk_at dksX8_restore_0 1 rfl rfl)
theorem dX8_restore_2 : decode cX8_restore 2 = .ok (.i2l, 1) := dk_133 (dk_at dksX8_restore_0 2 rfl rfl)
theorem dX8_restore_3 : decode cX8_restore 3 = .ok (.lconst 0, 1) := dk_9 (dk_at dksX8_restore_0 3 rfl rfl)
theorem dX8_restore_4 : decode cX8_restore 4 = .ok (.ldc2_w 314, 3) := dk_20 1 58 (dk_at dksX8_restore_0 4 rfl rfl)
theorem dX8_restore_7 : decode cX8_restore 7 = .ok (.invokestatic 79, 3) := dk_184 0 79 (dk_at dksX8_restore_0 7 rfl rfl)
theorem dX8_restore_10 : decode cX8_restore 10 = .ok (.ifCond .ne 7, 3) := dk_154 0 7 (dk_at dksX8_restore_0 10 rfl rfl)
theorem dX8_restore_13 : decode cX8_restore 13 = .ok (.iconst 1, 1) := dk_4 (dk_at dksX8_restore_0 13 rfl rfl)
theorem dX8_restore_14 : decode cX8_restore 14 = .ok (.goto 17, 3) := dk_167 0 17 (dk_at dksX8_restore_0 14 rfl rfl)
theorem dX8_restore_17 : decode cX8_restore 17 = .ok (.aload_n 0, 1) := dk_42 (dk_at dksX8_restore_0 17 rfl rfl)
theorem dX8_restore_18 : decode cX8_restore 18 = .ok (.getfield 23, 3) := dk_180 0 23 (dk_at dksX8_restore_0 18 rfl rfl)
theorem dX8_restore_21 : decode cX8_restore 21 = .ok (.iload_n 1, 1) := dk_27 (dk_at dksX8_restore_0 21 rfl rfl)
theorem dX8_restore_22 : decode cX8_restore 22 = .ok (.baload, 1) := dk_51 (dk_at dksX8_restore_0 22 rfl rfl)
theorem dX8_restore_23 : decode cX8_restore 23 = .ok (.ifCond .ne 7, 3) := dk_154 0 7 (dk_at dksX8_restore_1 0 rfl rfl)
theorem dX8_restore_26 : decode cX8_restore 26 = .ok (.iconst 2, 1) := dk_5 (dk_at dksX8_restore_1 3 rfl rfl)
theorem dX8_restore_27 : decode cX8_restore 27 = .ok (.goto 4, 3) := dk_167 0 4 (dk_at dksX8_restore_1 4 rfl rfl)
theorem dX8_restore_30 : decode cX8_restore 30 = .ok (.iconst 0, 1) := dk_3 (dk_at dksX8_restore_1 7 rfl rfl)
theorem dX8_restore_31 : decode cX8_restore 31 = .ok (.putfield 76, 3) := dk_181 0 76 (dk_at dksX8_restore_1 8 rfl rfl)
theorem dX8_restore_34 : decode cX8_restore 34 = .ok (.aload_n 0, 1) := dk_42 (dk_at dksX8_restore_1 11 rfl rfl)
theorem dX8_restore_35 : decode cX8_restore 35 = .ok (.getfield 76, 3) := dk_180 0 76 (dk_at dksX8_restore_1 12 rfl rfl)
theorem dX8_restore_38 : decode cX8_restore 38 = .ok (.ifCond .le 4, 3) := dk_158 0 4 (dk_at dksX8_restore_1 15 rfl rfl)
theorem dX8_restore_41 : decode cX8_restore 41 = .ok (.return_, 1) := dk_177 (dk_at dksX8_restore_1 18 rfl rfl)
theorem dX8_restore_42 : decode cX8_restore 42 = .ok (.iconst 0, 1) := dk_3 (dk_at dksX8_restore_1 19 rfl rfl)
theorem dX8_restore_43 : decode cX8_restore 43 = .ok (.istore_n 2, 1) := dk_61 (dk_at dksX8_restore_1 20 rfl rfl)
theorem dX8_restore_44 : decode cX8_restore 44 = .ok (.iload_n 2, 1) := dk_28 (dk_at dksX8_restore_1 21 rfl rfl)
theorem dX8_restore_45 : decode cX8_restore 45 = .ok (.sipush 3179, 3) := dk_17 12 107 (dk_at dksX8_restore_2 0 rfl rfl)
theorem dX8_restore_48 : decode cX8_restore 48 = .ok (.if_icmp .ge 27, 3) := dk_162 0 27 (dk_at dksX8_restore_2 3 rfl rfl)
theorem dX8_restore_51 : decode cX8_restore 51 = .ok (.aload_n 0, 1) := dk_42 (dk_at dksX8_restore_2 6 rfl rfl)
theorem dX8_restore_52 : decode cX8_restore 52 = .ok (.getfield 9, 3) := dk_180 0 9 (dk_at dksX8_restore_2 7 rfl rfl)
theorem dX8_restore_55 : decode cX8_restore 55 = .ok (.iload_n 2, 1) := dk_28 (dk_at dksX8_restore_2 10 rfl rfl)
theorem dX8_restore_56 : decode cX8_restore 56 = .ok (.aload_n 0, 1) := dk_42 (dk_at dksX8_restore_2 11 rfl rfl)
theorem dX8_restore_57 : decode cX8_restore 57 = .ok (.getfield 13, 3) := dk_180 0 13 (dk_at dksX8_restore_2 12 rfl rfl)
theorem dX8_restore_60 : decode cX8_restore 60 = .ok (.sipush 3179, 3) := dk_17 12 107 (dk_at dksX8_restore_2 15 rfl rfl)
theorem dX8_restore_63 : decode cX8_restore 63 = .ok (.iload_n 1, 1) := dk_27 (dk_at dksX8_restore_2 18 rfl rfl)
theorem dX8_restore_64 : decode cX8_restore 64 = .ok (.imul, 1) := dk_104 (dk_at dksX8_restore_2 19 rfl rfl)
theorem dX8_restore_65 : decode cX8_restore 65 = .ok (.iload_n 2, 1) := dk_28 (dk_at dksX8_restore_2 20 rfl rfl)
theorem dX8_restore_66 : decode cX8_restore 66 = .ok (.iadd, 1) := dk_96 (dk_at dksX8_restore_2 21 rfl rfl)
theorem dX8_restore_67 : decode cX8_restore 67 = .ok (.iaload, 1) := dk_46 (dk_at dksX8_restore_2 22 rfl rfl)
theorem dX8_restore_68 : decode cX8_restore 68 = .ok (.iastore, 1) := dk_79 (dk_at dksX8_restore_2 23 rfl rfl)
theorem dX8_restore_69 : decode cX8_restore 69 = .ok (.iinc 2 1, 3) := dk_132 2 1 (dk_at dksX8_restore_3 0 rfl rfl)
theorem dX8_restore_72 : decode cX8_restore 72 = .ok (.goto (-28), 3) := dk_167 255 228 (dk_at dksX8_restore_3 3 rfl rfl)
theorem dX8_restore_75 : decode cX8_restore 75 = .ok (.iconst 0, 1) := dk_3 (dk_at dksX8_restore_3 6 rfl rfl)
theorem dX8_restore_76 : decode cX8_restore 76 = .ok (.istore_n 2, 1) := dk_61 (dk_at dksX8_restore_3 7 rfl rfl)
theorem dX8_restore_77 : decode cX8_restore 77 = .ok (.iload_n 2, 1) := dk_28 (dk_at dksX8_restore_3 8 rfl rfl)
theorem dX8_restore_78 : decode cX8_restore 78 = .ok (.bipush 9, 2) := dk_16 9 (dk_at dksX8_restore_3 9 rfl rfl)
theorem dX8_restore_80 : decode cX8_restore 80 = .ok (.if_icmp .ge 26, 3) := dk_162 0 26 (dk_at dksX8_restore_3 11 rfl rfl)
theorem dX8_restore_83 : decode cX8_restore 83 = .ok (.aload_n 0, 1) := dk_42 (dk_at dksX8_restore_3 14 rfl rfl)
theorem dX8_restore_84 : decode cX8_restore 84 = .ok (.getfield 16, 3) := dk_180 0 16 (dk_at dksX8_restore_3 15 rfl rfl)
theorem dX8_restore_87 : decode cX8_restore 87 = .ok (.iload_n 2, 1) := dk_28 (dk_at dksX8_restore_3 18 rfl rfl)
theorem dX8_restore_88 : decode cX8_restore 88 = .ok (.aload_n 0, 1) := dk_42 (dk_at dksX8_restore_3 19 rfl rfl)
theorem dX8_restore_89 : decode cX8_restore 89 = .ok (.getfield 20, 3) := dk_180 0 20 (dk_at dksX8_restore_3 20 rfl rfl)
theorem dX8_restore_92 : decode cX8_restore 92 = .ok (.bipush 9, 2) := dk_16 9 (dk_at dksX8_restore_4 0 rfl rfl)
theorem dX8_restore_94 : decode cX8_restore 94 = .ok (.iload_n 1, 1) := dk_27 (dk_at dksX8_restore_4 2 rfl rfl)
theorem dX8_restore_95 : decode cX8_restore 95 = .ok (.imul, 1) := dk_104 (dk_at dksX8_restore_4 3 rfl rfl)
theorem dX8_restore_96 : decode cX8_restore 96 = .ok (.iload_n 2, 1) := dk_28 (dk_at dksX8_restore_4 4 rfl rfl)
theorem dX8_restore_97 : decode cX8_restore 97 = .ok (.iadd, 1) := dk_96 (dk_at dksX8_restore_4 5 rfl rfl)
theorem dX8_restore_98 : decode cX8_restore 98 = .ok (.laload, 1) := dk_47 (dk_at dksX8_restore_4 6 rfl rfl)
theorem dX8_restore_99 : decode cX8_restore 99 = .ok (.lastore, 1) := dk_80 (dk_at dksX8_restore_4 7 rfl rfl)
theorem dX8_restore_100 : decode cX8_restore 100 = .ok (.iinc 2 1, 3) := dk_132 2 1 (dk_at dksX8_restore_4 8 rfl rfl)
theorem dX8_restore_103 : decode cX8_restore 103 = .ok (.goto (-26), 3) := dk_167 255 230 (dk_at dksX8_restore_4 11 rfl rfl)
theorem dX8_restore_106 : decode cX8_restore 106 = .ok (.return_, 1) := dk_177 (dk_at dksX8_restore_4 14 rfl rfl)
abbrev cX8_count : ByteArray := prog_29_method_105_code
def yX8_count : MethodName := ⟨RX8, "count", "(I)J"⟩
def dkwX8_count_5 : List UInt8 := [180, 0, 101, 133, 173, 42, 180, 0, 9, 16, 6, 46, 133, 173, 20, 1, 166, 173]
abbrev dktX8_count_5 : List UInt8 := dkwX8_count_5 ++ []
def dkwX8_count_4 : List UInt8 := [180, 0, 9, 7, 46, 133, 173, 42, 180, 0, 9, 8, 46, 133, 173, 42, 180, 0, 16, 16, 8, 47, 173, 42]
abbrev dktX8_count_4 : List UInt8 := dkwX8_count_4 ++ dktX8_count_5
def dkwX8_count_3 : List UInt8 := [17, 1, 0, 42, 180, 0, 9, 5, 46, 184, 1, 13, 133, 173, 42, 180, 0, 9, 6, 46, 133, 173, 42]
abbrev dktX8_count_3 : List UInt8 := dkwX8_count_3 ++ dktX8_count_4
def dkwX8_count_2 : List UInt8 := [42, 180, 0, 9, 3, 46, 133, 173, 42, 180, 0, 9, 4, 46, 133, 173, 42, 180, 0, 9, 5, 46, 133, 173]
abbrev dktX8_count_2 : List UInt8 := dkwX8_count_2 ++ dktX8_count_3
def dkwX8_count_1 : List UInt8 := [170, 0, 0, 0, 0, 139, 0, 0, 0, 0, 0, 0, 0, 9, 0, 0, 0, 54, 0, 0, 0, 62, 0, 0, 0, 70, 0, 0, 0, 78, 0, 0, 0, 92, 0, 0, 0, 100, 0, 0, 0, 108, 0, 0, 0, 116, 0, 0, 0, 124, 0, 0, 0, 130]
abbrev dktX8_count_1 : List UInt8 := dkwX8_count_1 ++ dktX8_count_2
def dkwX8_count_0 : List UInt8 := [42, 3, 181, 0, 76, 27]
abbrev dktX8_count_0 : List UInt8 := dkwX8_count_0 ++ dktX8_count_1
theorem dksX8_count_0 : cX8_count.data.toList.drop 0 = dktX8_count_0 := by decide +kernel
theorem dksX8_count_1 : cX8_count.data.toList.drop 6 = dktX8_count_1 := dk_seg dksX8_count_0 6 rfl rfl
theorem dksX8_count_2 : cX8_count.data.toList.drop 60 = dktX8_count_2 := dk_seg dksX8_count_1 54 rfl rfl
theorem dksX8_count_3 : cX8_count.data.toList.drop 84 = dktX8_count_3 := dk_seg dksX8_count_2 24 rfl rfl
theorem dksX8_count_4 : cX8_count.data.toList.drop 107 = dktX8_count_4 := dk_seg dksX8_count_3 23 rfl rfl
theorem dksX8_count_5 : cX8_count.data.toList.drop 131 = dktX8_count_5 := dk_seg dksX8_count_4 24 rfl rfl
theorem dX8_count_0 : decode cX8_count 0 = .ok (.aload_n 0, 1) := dk_42 (dk_at dksX8_count_0 0 rfl rfl)
theorem dX8_count_1 : decode cX8_count 1 = .ok (.iconst 0, 1) := dk_3 (dk_at dksX8_count_0 1 rfl rfl)
theorem dX8_count_2 : decode cX8_count 2 = .ok (.putfield 76, 3) := dk_181 0 76 (dk_at dksX8_count_0 2 rfl rfl)
theorem dX8_count_5 : decode cX8_count 5 = .ok (.iload_n 1, 1) := dk_27 (dk_at dksX8_count_0 5 rfl rfl)
theorem dX8_count_6 : decode cX8_count 6 = .ok (.tableswitch 139 0 9 #[54, 62, 70, 78, 92, 100, 108, 116, 124, 130], 54) := by decide +kernel
theorem dX8_count_60 : decode cX8_count 60 = .ok (.aload_n 0, 1) := dk_42 (dk_at dksX8_count_2 0 rfl rfl)
theorem dX8_count_61 : decode cX8_count 61 = .ok (.getfield 9, 3) := dk_180 0 9 (dk_at dksX8_count_2 1 rfl rfl)
theorem dX8_count_64 : decode cX8_count 64 = .ok (.iconst 0, 1) := dk_3 (dk_at dksX8_count_2 4 rfl rfl)
theorem dX8_count_65 : decode cX8_count 65 = .ok (.iaload, 1) := dk_46 (dk_at dksX8_count_2 5 rfl rfl)
theorem dX8_count_66 : decode cX8_count 66 = .ok (.i2l, 1) := dk_133 (dk_at dksX8_count_2 6 rfl rfl)
theorem dX8_count_67 : decode cX8_count 67 = .ok (.lreturn, 1) := dk_173 (dk_at dksX8_count_2 7 rfl rfl)
theorem dX8_count_68 : decode cX8_count 68 = .ok (.aload_n 0, 1) := dk_42 (dk_at dksX8_count_2 8 rfl rfl)
theorem dX8_count_69 : decode cX8_count 69 = .ok (.getfield 9, 3) := dk_180 0 9 (dk_at dksX8_count_2 9 rfl rfl)
theorem dX8_count_72 : decode cX8_count 72 = .ok (.iconst 1, 1) := dk_4 (dk_at dksX8_count_2 12 rfl rfl)
theorem dX8_count_73 : decode cX8_count 73 = .ok (.iaload, 1) := dk_46 (dk_at dksX8_count_2 13 rfl rfl)
theorem dX8_count_74 : decode cX8_count 74 = .ok (.i2l, 1) := dk_133 (dk_at dksX8_count_2 14 rfl rfl)
theorem dX8_count_75 : decode cX8_count 75 = .ok (.lreturn, 1) := dk_173 (dk_at dksX8_count_2 15 rfl rfl)
theorem dX8_count_76 : decode cX8_count 76 = .ok (.aload_n 0, 1) := dk_42 (dk_at dksX8_count_2 16 rfl rfl)
theorem dX8_count_77 : decode cX8_count 77 = .ok (.getfield 9, 3) := dk_180 0 9 (dk_at dksX8_count_2 17 rfl rfl)
theorem dX8_count_80 : decode cX8_count 80 = .ok (.iconst 2, 1) := dk_5 (dk_at dksX8_count_2 20 rfl rfl)
theorem dX8_count_81 : decode cX8_count 81 = .ok (.iaload, 1) := dk_46 (dk_at dksX8_count_2 21 rfl rfl)
theorem dX8_count_82 : decode cX8_count 82 = .ok (.i2l, 1) := dk_133 (dk_at dksX8_count_2 22 rfl rfl)
theorem dX8_count_83 : decode cX8_count 83 = .ok (.lreturn, 1) := dk_173 (dk_at dksX8_count_2 23 rfl rfl)
theorem dX8_count_84 : decode cX8_count 84 = .ok (.sipush 256, 3) := dk_17 1 0 (dk_at dksX8_count_3 0 rfl rfl)
theorem dX8_count_87 : decode cX8_count 87 = .ok (.aload_n 0, 1) := dk_42 (dk_at dksX8_count_3 3 rfl rfl)
theorem dX8_count_88 : decode cX8_count 88 = .ok (.getfield 9, 3) := dk_180 0 9 (dk_at dksX8_count_3 4 rfl rfl)
theorem dX8_count_91 : decode cX8_count 91 = .ok (.iconst 2, 1) := dk_5 (dk_at dksX8_count_3 7 rfl rfl)
theorem dX8_count_92 : decode cX8_count 92 = .ok (.iaload, 1) := dk_46 (dk_at dksX8_count_3 8 rfl rfl)
theorem dX8_count_93 : decode cX8_count 93 = .ok (.invokestatic 269, 3) := dk_184 1 13 (dk_at dksX8_count_3 9 rfl rfl)
theorem dX8_count_96 : decode cX8_count 96 = .ok (.i2l, 1) := dk_133 (dk_at dksX8_count_3 12 rfl rfl)
theorem dX8_count_97 : decode cX8_count 97 = .ok (.lreturn, 1) := dk_173 (dk_at dksX8_count_3 13 rfl rfl)
theorem dX8_count_98 : decode cX8_count 98 = .ok (.aload_n 0, 1) := dk_42 (dk_at dksX8_count_3 14 rfl rfl)
theorem dX8_count_99 : decode cX8_count 99 = .ok (.getfield 9, 3) := dk_180 0 9 (dk_at dksX8_count_3 15 rfl rfl)
theorem dX8_count_102 : decode cX8_count 102 = .ok (.iconst 3, 1) := dk_6 (dk_at dksX8_count_3 18 rfl rfl)
theorem dX8_count_103 : decode cX8_count 103 = .ok (.iaload, 1) := dk_46 (dk_at dksX8_count_3 19 rfl rfl)
theorem dX8_count_104 : decode cX8_count 104 = .ok (.i2l, 1) := dk_133 (dk_at dksX8_count_3 20 rfl rfl)
theorem dX8_count_105 : decode cX8_count 105 = .ok (.lreturn, 1) := dk_173 (dk_at dksX8_count_3 21 rfl rfl)
theorem dX8_count_106 : decode cX8_count 106 = .ok (.aload_n 0, 1) := dk_42 (dk_at dksX8_count_3 22 rfl rfl)
theorem dX8_count_107 : decode cX8_count 107 = .ok (.getfield 9, 3) := dk_180 0 9 (dk_at dksX8_count_4 0 rfl rfl)
theorem dX8_count_110 : decode cX8_count 110 = .ok (.iconst 4, 1) := dk_7 (dk_at dksX8_count_4 3 rfl rfl)
theorem dX8_count_111 : decode cX8_count 111 = .ok (.iaload, 1) := dk_46 (dk_at dksX8_count_4 4 rfl rfl)
theorem dX8_count_112 : decode cX8_count 112 = .ok (.i2l, 1) := dk_133 (dk_at dksX8_count_4 5 rfl rfl)
theorem dX8_count_113 : decode cX8_count 113 = .ok (.lreturn, 1) := dk_173 (dk_at dksX8_count_4 6 rfl rfl)
theorem dX8_count_114 : decode cX8_count 114 = .ok (.aload_n 0, 1) := dk_42 (dk_at dksX8_count_4 7 rfl rfl)
theorem dX8_count_115 : decode cX8_count 115 = .ok (.getfield 9, 3) := dk_180 0 9 (dk_at dksX8_count_4 8 rfl rfl)
theorem dX8_count_118 : decode cX8_count 118 = .ok (.iconst 5, 1) := dk_8 (dk_at dksX8_count_4 11 rfl rfl)
theorem dX8_count_119 : decode cX8_count 119 = .ok (.iaload, 1) := dk_46 (dk_at dksX8_count_4 12 rfl rfl)
theorem dX8_count_120 : decode cX8_count 120 = .ok (.i2l, 1) := dk_133 (dk_at dksX8_count_4 13 rfl rfl)
theorem dX8_count_121 : decode cX8_count 121 = .ok (.lreturn, 1) := dk_173 (dk_at dksX8_count_4 14 rfl rfl)
theorem dX8_count_122 : decode cX8_count 122 = .ok (.aload_n 0, 1) := dk_42 (dk_at dksX8_count_4 15 rfl rfl)
theorem dX8_count_123 : decode cX8_count 123 = .ok (.getfield 16, 3) := dk_180 0 16 (dk_at dksX8_count_4 16 rfl rfl)
theorem dX8_count_126 : decode cX8_count 126 = .ok (.bipush 8, 2) := dk_16 8 (dk_at dksX8_count_4 19 rfl rfl)
theorem dX8_count_128 : decode cX8_count 128 = .ok (.laload, 1) := dk_47 (dk_at dksX8_count_4 21 rfl rfl)
theorem dX8_count_129 : decode cX8_count 129 = .ok (.lreturn, 1) := dk_173 (dk_at dksX8_count_4 22 rfl rfl)
theorem dX8_count_130 : decode cX8_count 130 = .ok (.aload_n 0, 1) := dk_42 (dk_at dksX8_count_4 23 rfl rfl)
theorem dX8_count_131 : decode cX8_count 131 = .ok (.getfield 101, 3) := dk_180 0 101 (dk_at dksX8_count_5 0 rfl rfl)
theorem dX8_count_134 : decode cX8_count 134 = .ok (.i2l, 1) := dk_133 (dk_at dksX8_count_5 3 rfl rfl)
theorem dX8_count_135 : decode cX8_count 135 = .ok (.lreturn, 1) := dk_173 (dk_at dksX8_count_5 4 rfl rfl)
theorem dX8_count_136 : decode cX8_count 136 = .ok (.aload_n 0, 1) := dk_42 (dk_at dksX8_count_5 5 rfl rfl)
theorem dX8_count_137 : decode cX8_count 137 = .ok (.getfield 9, 3) := dk_180 0 9 (dk_at dksX8_count_5 6 rfl rfl)
theorem dX8_count_140 : decode cX8_count 140 = .ok (.bipush 6, 2) := dk_16 6 (dk_at dksX8_count_5 9 rfl rfl)
theorem dX8_count_142 : decode cX8_count 142 = .ok (.iaload, 1) := dk_46 (dk_at dksX8_count_5 11 rfl rfl)
theorem dX8_count_143 : decode cX8_count 143 = .ok (.i2l, 1) := dk_133 (dk_at dksX8_count_5 12 rfl rfl)
theorem dX8_count_144 : decode cX8_count 144 = .ok (.lreturn, 1) := dk_173 (dk_at dksX8_count_5 13 rfl rfl)
theorem dX8_count_145 : decode cX8_count 145 = .ok (.ldc2_w 422, 3) := dk_20 1 166 (dk_at dksX8_count_5 14 rfl rfl)
theorem dX8_count_148 : decode cX8_count 148 = .ok (.lreturn, 1) := dk_173 (dk_at dksX8_count_5 17 rfl rfl)
theorem q107 : (Jvm.Cond.initialized "PumpCrossingModel") ∈ lw_all := lw_g (lw_at lw_m1 11 rfl) rfl
theorem q700 : (Jvm.Cond.selects "PumpCrossingModel" ({ cls := "java/lang/Object", name := "getClass", desc := "()Ljava/lang/Class;" } : Jvm.MethodName) ({ cls := "java/lang/Object", name := "getClass", desc := "()Ljava/lang/Class;" } : Jvm.MethodName)) ∈ lw_all := lw_g (lw_at lw_m3 124 rfl) rfl
theorem q1823 : (Jvm.Cond.instantiable "PumpCrossingModel" (40 : Nat)) ∈ lw_all := lw_g (lw_at lw_m8 47 rfl) rfl
theorem q1825 : (Jvm.Cond.instanceMethod ({ cls := "PumpCrossingModel", name := "<init>", desc := "()V" } : Jvm.MethodName)) ∈ lw_all := lw_g (lw_at lw_m8 49 rfl) rfl
theorem q1826 : (Jvm.Cond.code ({ cls := "PumpCrossingModel", name := "<init>", desc := "()V" } : Jvm.MethodName) prog_29_method_1_code (2 : Nat) (Option.none : Option Jvm.ClassFile.FieldType)) ∈ lw_all := lw_g (lw_at lw_m8 50 rfl) rfl
theorem q1827 : (Jvm.Cond.methodLink "PumpCrossingModel" (1 : Nat) ({ cls := "java/lang/Object", name := "<init>", desc := "()V" } : Jvm.MethodName)) ∈ lw_all := lw_g (lw_at lw_m8 51 rfl) rfl
theorem q1828 : (Jvm.Cond.fieldLink "PumpCrossingModel" (9 : Nat) "PumpCrossingModel" "told" "[I") ∈ lw_all := lw_g (lw_at lw_m8 52 rfl) rfl
theorem q1829 : (Jvm.Cond.fieldLink "PumpCrossingModel" (13 : Nat) "PumpCrossingModel" "images" "[I") ∈ lw_all := lw_g (lw_at lw_m8 53 rfl) rfl
theorem q1830 : (Jvm.Cond.fieldLink "PumpCrossingModel" (16 : Nat) "PumpCrossingModel" "sums" "[J") ∈ lw_all := lw_g (lw_at lw_m8 54 rfl) rfl
theorem q1831 : (Jvm.Cond.fieldLink "PumpCrossingModel" (20 : Nat) "PumpCrossingModel" "imageSums" "[J") ∈ lw_all := lw_g (lw_at lw_m8 55 rfl) rfl
theorem q1832 : (Jvm.Cond.fieldLink "PumpCrossingModel" (23 : Nat) "PumpCrossingModel" "isImage" "[Z") ∈ lw_all := lw_g (lw_at lw_m8 56 rfl) rfl
theorem q1833 : (Jvm.Cond.fieldLink "PumpCrossingModel" (76 : Nat) "PumpCrossingModel" "thrown" "I") ∈ lw_all := lw_g (lw_at lw_m8 57 rfl) rfl
theorem q1834 : (Jvm.Cond.fieldLink "PumpCrossingModel" (27 : Nat) "PumpCrossingModel" "tape" "[I") ∈ lw_all := lw_g (lw_at lw_m8 58 rfl) rfl
theorem q1835 : (Jvm.Cond.fieldLink "PumpCrossingModel" (30 : Nat) "PumpCrossingModel" "fresh" "[I") ∈ lw_all := lw_g (lw_at lw_m8 59 rfl) rfl
theorem q1836 : (Jvm.Cond.fieldLink "PumpCrossingModel" (33 : Nat) "PumpCrossingModel" "freshLaw" "[I") ∈ lw_all := lw_g (lw_at lw_m8 60 rfl) rfl
theorem q1837 : (Jvm.Cond.fieldLink "PumpCrossingModel" (101 : Nat) "PumpCrossingModel" "taped" "I") ∈ lw_all := lw_g (lw_at lw_m8 61 rfl) rfl
theorem q1838 : (Jvm.Cond.fieldLink "PumpCrossingModel" (104 : Nat) "PumpCrossingModel" "size" "I") ∈ lw_all := lw_g (lw_at lw_m8 62 rfl) rfl
theorem q1839 : (Jvm.Cond.fieldLink "PumpCrossingModel" (107 : Nat) "PumpCrossingModel" "at" "I") ∈ lw_all := lw_g (lw_at lw_m8 63 rfl) rfl
theorem q1840 : (Jvm.Cond.fieldLink "PumpCrossingModel" (110 : Nat) "PumpCrossingModel" "begin" "I") ∈ lw_all := lw_g (lw_at lw_m8 64 rfl) rfl
theorem q1841 : (Jvm.Cond.fieldLink "PumpCrossingModel" (116 : Nat) "PumpCrossingModel" "token" "I") ∈ lw_all := lw_g (lw_at lw_m8 65 rfl) rfl
theorem q1842 : (Jvm.Cond.fieldLink "PumpCrossingModel" (128 : Nat) "PumpCrossingModel" "value" "I") ∈ lw_all := lw_g (lw_at lw_m8 66 rfl) rfl
theorem q1843 : (Jvm.Cond.fieldLink "PumpCrossingModel" (113 : Nat) "PumpCrossingModel" "sign" "I") ∈ lw_all := lw_g (lw_at lw_m8 67 rfl) rfl
theorem q1844 : (Jvm.Cond.fieldLink "PumpCrossingModel" (134 : Nat) "PumpCrossingModel" "bad" "I") ∈ lw_all := lw_g (lw_at lw_m8 68 rfl) rfl
theorem q1845 : (Jvm.Cond.fieldLink "PumpCrossingModel" (137 : Nat) "PumpCrossingModel" "badPlace" "I") ∈ lw_all := lw_g (lw_at lw_m8 69 rfl) rfl
theorem q1846 : (Jvm.Cond.fieldLink "PumpCrossingModel" (157 : Nat) "PumpCrossingModel" "faultKind" "I") ∈ lw_all := lw_g (lw_at lw_m8 70 rfl) rfl
theorem q1847 : (Jvm.Cond.fieldLink "PumpCrossingModel" (36 : Nat) "PumpCrossingModel" "faultPlace" "I") ∈ lw_all := lw_g (lw_at lw_m8 71 rfl) rfl
theorem q1848 : (Jvm.Cond.fieldLink "PumpCrossingModel" (160 : Nat) "PumpCrossingModel" "top" "I") ∈ lw_all := lw_g (lw_at lw_m8 72 rfl) rfl
theorem q1849 : (Jvm.Cond.fieldLink "PumpCrossingModel" (196 : Nat) "PumpCrossingModel" "nots" "I") ∈ lw_all := lw_g (lw_at lw_m8 73 rfl) rfl
theorem q1850 : (Jvm.Cond.fieldLink "PumpCrossingModel" (40 : Nat) "PumpCrossingModel" "pile" "[I") ∈ lw_all := lw_g (lw_at lw_m8 74 rfl) rfl
theorem q1851 : (Jvm.Cond.fieldLink "PumpCrossingModel" (257 : Nat) "PumpCrossingModel" "byTold" "Z") ∈ lw_all := lw_g (lw_at lw_m8 75 rfl) rfl
theorem q1852 : (Jvm.Cond.fieldLink "PumpCrossingModel" (43 : Nat) "PumpCrossingModel" "now" "[I") ∈ lw_all := lw_g (lw_at lw_m8 76 rfl) rfl
theorem q1853 : (Jvm.Cond.fieldLink "PumpCrossingModel" (46 : Nat) "PumpCrossingModel" "nextPrice" "[I") ∈ lw_all := lw_g (lw_at lw_m8 77 rfl) rfl
theorem q1854 : (Jvm.Cond.fieldLink "PumpCrossingModel" (328 : Nat) "PumpCrossingModel" "upper" "J") ∈ lw_all := lw_g (lw_at lw_m8 78 rfl) rfl
theorem q1855 : (Jvm.Cond.fieldLink "PumpCrossingModel" (332 : Nat) "PumpCrossingModel" "lower" "J") ∈ lw_all := lw_g (lw_at lw_m8 79 rfl) rfl
theorem q1856 : (Jvm.Cond.fieldLink "PumpCrossingModel" (49 : Nat) "PumpCrossingModel" "gains" "[I") ∈ lw_all := lw_g (lw_at lw_m8 80 rfl) rfl
theorem q1857 : (Jvm.Cond.fieldLink "PumpCrossingModel" (52 : Nat) "PumpCrossingModel" "sets" "[I") ∈ lw_all := lw_g (lw_at lw_m8 81 rfl) rfl
theorem q1858 : (Jvm.Cond.fieldLink "PumpCrossingModel" (55 : Nat) "PumpCrossingModel" "mine" "[J") ∈ lw_all := lw_g (lw_at lw_m8 82 rfl) rfl
theorem q1859 : (Jvm.Cond.fieldLink "PumpCrossingModel" (58 : Nat) "PumpCrossingModel" "its" "[J") ∈ lw_all := lw_g (lw_at lw_m8 83 rfl) rfl
theorem q1860 : (Jvm.Cond.fieldLink "PumpCrossingModel" (61 : Nat) "PumpCrossingModel" "table" "[I") ∈ lw_all := lw_g (lw_at lw_m8 84 rfl) rfl
theorem q1861 : (Jvm.Cond.fieldLink "PumpCrossingModel" (379 : Nat) "PumpCrossingModel" "x" "I") ∈ lw_all := lw_g (lw_at lw_m8 85 rfl) rfl
theorem q1862 : (Jvm.Cond.fieldLink "PumpCrossingModel" (388 : Nat) "PumpCrossingModel" "atA" "I") ∈ lw_all := lw_g (lw_at lw_m8 86 rfl) rfl
theorem q1863 : (Jvm.Cond.fieldLink "PumpCrossingModel" (391 : Nat) "PumpCrossingModel" "atB" "I") ∈ lw_all := lw_g (lw_at lw_m8 87 rfl) rfl
theorem q1864 : (Jvm.Cond.fieldLink "PumpCrossingModel" (64 : Nat) "PumpCrossingModel" "paid" "[I") ∈ lw_all := lw_g (lw_at lw_m8 88 rfl) rfl
theorem q1865 : (Jvm.Cond.fieldLink "PumpCrossingModel" (67 : Nat) "PumpCrossingModel" "tSort" "[I") ∈ lw_all := lw_g (lw_at lw_m8 89 rfl) rfl
theorem q1866 : (Jvm.Cond.fieldLink "PumpCrossingModel" (70 : Nat) "PumpCrossingModel" "tMany" "[I") ∈ lw_all := lw_g (lw_at lw_m8 90 rfl) rfl
theorem q1867 : (Jvm.Cond.fieldLink "PumpCrossingModel" (73 : Nat) "PumpCrossingModel" "numbers" "[J") ∈ lw_all := lw_g (lw_at lw_m8 91 rfl) rfl
theorem q1868 : (Jvm.Cond.laysFinal "PumpCrossingModel" "PumpCrossingModel" "told" "[I") ∈ lw_all := lw_g (lw_at lw_m8 92 rfl) rfl
theorem q1869 : (Jvm.Cond.soleField "PumpCrossingModel" "told") ∈ lw_all := lw_g (lw_at lw_m8 93 rfl) rfl
theorem q1870 : (Jvm.Cond.laysFinal "PumpCrossingModel" "PumpCrossingModel" "images" "[I") ∈ lw_all := lw_g (lw_at lw_m8 94 rfl) rfl
theorem q1871 : (Jvm.Cond.soleField "PumpCrossingModel" "images") ∈ lw_all := lw_g (lw_at lw_m8 95 rfl) rfl
theorem q1872 : (Jvm.Cond.laysFinal "PumpCrossingModel" "PumpCrossingModel" "sums" "[J") ∈ lw_all := lw_g (lw_at lw_m8 96 rfl) rfl
theorem q1873 : (Jvm.Cond.soleField "PumpCrossingModel" "sums") ∈ lw_all := lw_g (lw_at lw_m8 97 rfl) rfl
theorem q1874 : (Jvm.Cond.laysFinal "PumpCrossingModel" "PumpCrossingModel" "imageSums" "[J") ∈ lw_all := lw_g (lw_at lw_m8 98 rfl) rfl
theorem q1875 : (Jvm.Cond.soleField "PumpCrossingModel" "imageSums") ∈ lw_all := lw_g (lw_at lw_m8 99 rfl) rfl
theorem q1876 : (Jvm.Cond.laysFinal "PumpCrossingModel" "PumpCrossingModel" "isImage" "[Z") ∈ lw_all := lw_g (lw_at lw_m8 100 rfl) rfl
theorem q1877 : (Jvm.Cond.soleField "PumpCrossingModel" "isImage") ∈ lw_all := lw_g (lw_at lw_m8 101 rfl) rfl
theorem q1878 : (Jvm.Cond.lays "PumpCrossingModel" "PumpCrossingModel" "thrown" "I") ∈ lw_all := lw_g (lw_at lw_m8 102 rfl) rfl
theorem q1879 : (Jvm.Cond.soleField "PumpCrossingModel" "thrown") ∈ lw_all := lw_g (lw_at lw_m8 103 rfl) rfl
theorem q1880 : (Jvm.Cond.laysFinal "PumpCrossingModel" "PumpCrossingModel" "tape" "[I") ∈ lw_all := lw_g (lw_at lw_m8 104 rfl) rfl
theorem q1881 : (Jvm.Cond.soleField "PumpCrossingModel" "tape") ∈ lw_all := lw_g (lw_at lw_m8 105 rfl) rfl
theorem q1882 : (Jvm.Cond.laysFinal "PumpCrossingModel" "PumpCrossingModel" "fresh" "[I") ∈ lw_all := lw_g (lw_at lw_m8 106 rfl) rfl
theorem q1883 : (Jvm.Cond.soleField "PumpCrossingModel" "fresh") ∈ lw_all := lw_g (lw_at lw_m8 107 rfl) rfl
theorem q1884 : (Jvm.Cond.laysFinal "PumpCrossingModel" "PumpCrossingModel" "freshLaw" "[I") ∈ lw_all := lw_g (lw_at lw_m8 108 rfl) rfl
theorem q1885 : (Jvm.Cond.soleField "PumpCrossingModel" "freshLaw") ∈ lw_all := lw_g (lw_at lw_m8 109 rfl) rfl
theorem q1886 : (Jvm.Cond.lays "PumpCrossingModel" "PumpCrossingModel" "taped" "I") ∈ lw_all := lw_g (lw_at lw_m8 110 rfl) rfl
theorem q1887 : (Jvm.Cond.soleField "PumpCrossingModel" "taped") ∈ lw_all := lw_g (lw_at lw_m8 111 rfl) rfl
theorem q1888 : (Jvm.Cond.lays "PumpCrossingModel" "PumpCrossingModel" "size" "I") ∈ lw_all := lw_g (lw_at lw_m8 112 rfl) rfl
theorem q1889 : (Jvm.Cond.soleField "PumpCrossingModel" "size") ∈ lw_all := lw_g (lw_at lw_m8 113 rfl) rfl
theorem q1890 : (Jvm.Cond.lays "PumpCrossingModel" "PumpCrossingModel" "at" "I") ∈ lw_all := lw_g (lw_at lw_m8 114 rfl) rfl
theorem q1891 : (Jvm.Cond.soleField "PumpCrossingModel" "at") ∈ lw_all := lw_g (lw_at lw_m8 115 rfl) rfl
theorem q1892 : (Jvm.Cond.lays "PumpCrossingModel" "PumpCrossingModel" "begin" "I") ∈ lw_all := lw_g (lw_at lw_m8 116 rfl) rfl
theorem q1893 : (Jvm.Cond.soleField "PumpCrossingModel" "begin") ∈ lw_all := lw_g (lw_at lw_m8 117 rfl) rfl
theorem q1894 : (Jvm.Cond.lays "PumpCrossingModel" "PumpCrossingModel" "token" "I") ∈ lw_all := lw_g (lw_at lw_m8 118 rfl) rfl
theorem q1895 : (Jvm.Cond.soleField "PumpCrossingModel" "token") ∈ lw_all := lw_g (lw_at lw_m8 119 rfl) rfl
theorem q1896 : (Jvm.Cond.lays "PumpCrossingModel" "PumpCrossingModel" "value" "I") ∈ lw_all := lw_g (lw_at lw_m8 120 rfl) rfl
theorem q1897 : (Jvm.Cond.soleField "PumpCrossingModel" "value") ∈ lw_all := lw_g (lw_at lw_m8 121 rfl) rfl
theorem q1898 : (Jvm.Cond.lays "PumpCrossingModel" "PumpCrossingModel" "sign" "I") ∈ lw_all := lw_g (lw_at lw_m8 122 rfl) rfl
theorem q1899 : (Jvm.Cond.soleField "PumpCrossingModel" "sign") ∈ lw_all := lw_g (lw_at lw_m8 123 rfl) rfl
theorem q1900 : (Jvm.Cond.lays "PumpCrossingModel" "PumpCrossingModel" "bad" "I") ∈ lw_all := lw_g (lw_at lw_m8 124 rfl) rfl
theorem q1901 : (Jvm.Cond.soleField "PumpCrossingModel" "bad") ∈ lw_all := lw_g (lw_at lw_m8 125 rfl) rfl
theorem q1902 : (Jvm.Cond.lays "PumpCrossingModel" "PumpCrossingModel" "badPlace" "I") ∈ lw_all := lw_g (lw_at lw_m8 126 rfl) rfl
theorem q1903 : (Jvm.Cond.soleField "PumpCrossingModel" "badPlace") ∈ lw_all := lw_g (lw_at lw_m8 127 rfl) rfl
theorem q1904 : (Jvm.Cond.lays "PumpCrossingModel" "PumpCrossingModel" "faultKind" "I") ∈ lw_all := lw_g (lw_at lw_m8 128 rfl) rfl
theorem q1905 : (Jvm.Cond.soleField "PumpCrossingModel" "faultKind") ∈ lw_all := lw_g (lw_at lw_m8 129 rfl) rfl
theorem q1906 : (Jvm.Cond.lays "PumpCrossingModel" "PumpCrossingModel" "faultPlace" "I") ∈ lw_all := lw_g (lw_at lw_m8 130 rfl) rfl
theorem q1907 : (Jvm.Cond.soleField "PumpCrossingModel" "faultPlace") ∈ lw_all := lw_g (lw_at lw_m8 131 rfl) rfl
theorem q1908 : (Jvm.Cond.lays "PumpCrossingModel" "PumpCrossingModel" "top" "I") ∈ lw_all := lw_g (lw_at lw_m8 132 rfl) rfl
theorem q1909 : (Jvm.Cond.soleField "PumpCrossingModel" "top") ∈ lw_all := lw_g (lw_at lw_m8 133 rfl) rfl
theorem q1910 : (Jvm.Cond.lays "PumpCrossingModel" "PumpCrossingModel" "nots" "I") ∈ lw_all := lw_g (lw_at lw_m8 134 rfl) rfl
theorem q1911 : (Jvm.Cond.soleField "PumpCrossingModel" "nots") ∈ lw_all := lw_g (lw_at lw_m8 135 rfl) rfl
theorem q1912 : (Jvm.Cond.laysFinal "PumpCrossingModel" "PumpCrossingModel" "pile" "[I") ∈ lw_all := lw_g (lw_at lw_m8 136 rfl) rfl
theorem q1913 : (Jvm.Cond.soleField "PumpCrossingModel" "pile") ∈ lw_all := lw_g (lw_at lw_m8 137 rfl) rfl
theorem q1914 : (Jvm.Cond.lays "PumpCrossingModel" "PumpCrossingModel" "byTold" "Z") ∈ lw_all := lw_g (lw_at lw_m8 138 rfl) rfl
theorem q1915 : (Jvm.Cond.soleField "PumpCrossingModel" "byTold") ∈ lw_all := lw_g (lw_at lw_m8 139 rfl) rfl
theorem q1916 : (Jvm.Cond.laysFinal "PumpCrossingModel" "PumpCrossingModel" "now" "[I") ∈ lw_all := lw_g (lw_at lw_m8 140 rfl) rfl
theorem q1917 : (Jvm.Cond.soleField "PumpCrossingModel" "now") ∈ lw_all := lw_g (lw_at lw_m8 141 rfl) rfl
theorem q1918 : (Jvm.Cond.laysFinal "PumpCrossingModel" "PumpCrossingModel" "nextPrice" "[I") ∈ lw_all := lw_g (lw_at lw_m8 142 rfl) rfl
theorem q1919 : (Jvm.Cond.soleField "PumpCrossingModel" "nextPrice") ∈ lw_all := lw_g (lw_at lw_m8 143 rfl) rfl
theorem q1920 : (Jvm.Cond.lays "PumpCrossingModel" "PumpCrossingModel" "upper" "J") ∈ lw_all := lw_g (lw_at lw_m8 144 rfl) rfl
theorem q1921 : (Jvm.Cond.soleField "PumpCrossingModel" "upper") ∈ lw_all := lw_g (lw_at lw_m8 145 rfl) rfl
theorem q1922 : (Jvm.Cond.lays "PumpCrossingModel" "PumpCrossingModel" "lower" "J") ∈ lw_all := lw_g (lw_at lw_m8 146 rfl) rfl
theorem q1923 : (Jvm.Cond.soleField "PumpCrossingModel" "lower") ∈ lw_all := lw_g (lw_at lw_m8 147 rfl) rfl
theorem q1924 : (Jvm.Cond.laysFinal "PumpCrossingModel" "PumpCrossingModel" "gains" "[I") ∈ lw_all := lw_g (lw_at lw_m8 148 rfl) rfl
theorem q1925 : (Jvm.Cond.soleField "PumpCrossingModel" "gains") ∈ lw_all := lw_g (lw_at lw_m8 149 rfl) rfl
theorem q1926 : (Jvm.Cond.laysFinal "PumpCrossingModel" "PumpCrossingModel" "sets" "[I") ∈ lw_all := lw_g (lw_at lw_m8 150 rfl) rfl
theorem q1927 : (Jvm.Cond.soleField "PumpCrossingModel" "sets") ∈ lw_all := lw_g (lw_at lw_m8 151 rfl) rfl
theorem q1928 : (Jvm.Cond.laysFinal "PumpCrossingModel" "PumpCrossingModel" "mine" "[J") ∈ lw_all := lw_g (lw_at lw_m8 152 rfl) rfl
theorem q1929 : (Jvm.Cond.soleField "PumpCrossingModel" "mine") ∈ lw_all := lw_g (lw_at lw_m8 153 rfl) rfl
theorem q1930 : (Jvm.Cond.laysFinal "PumpCrossingModel" "PumpCrossingModel" "its" "[J") ∈ lw_all := lw_g (lw_at lw_m8 154 rfl) rfl
theorem q1931 : (Jvm.Cond.soleField "PumpCrossingModel" "its") ∈ lw_all := lw_g (lw_at lw_m8 155 rfl) rfl
theorem q1932 : (Jvm.Cond.laysFinal "PumpCrossingModel" "PumpCrossingModel" "table" "[I") ∈ lw_all := lw_g (lw_at lw_m8 156 rfl) rfl
theorem q1933 : (Jvm.Cond.soleField "PumpCrossingModel" "table") ∈ lw_all := lw_g (lw_at lw_m8 157 rfl) rfl
theorem q1934 : (Jvm.Cond.lays "PumpCrossingModel" "PumpCrossingModel" "x" "I") ∈ lw_all := lw_g (lw_at lw_m8 158 rfl) rfl
theorem q1935 : (Jvm.Cond.soleField "PumpCrossingModel" "x") ∈ lw_all := lw_g (lw_at lw_m8 159 rfl) rfl
theorem q1936 : (Jvm.Cond.lays "PumpCrossingModel" "PumpCrossingModel" "atA" "I") ∈ lw_all := lw_g (lw_at lw_m8 160 rfl) rfl
theorem q1937 : (Jvm.Cond.soleField "PumpCrossingModel" "atA") ∈ lw_all := lw_g (lw_at lw_m8 161 rfl) rfl
theorem q1938 : (Jvm.Cond.lays "PumpCrossingModel" "PumpCrossingModel" "atB" "I") ∈ lw_all := lw_g (lw_at lw_m8 162 rfl) rfl
theorem q1939 : (Jvm.Cond.soleField "PumpCrossingModel" "atB") ∈ lw_all := lw_g (lw_at lw_m8 163 rfl) rfl
theorem q1940 : (Jvm.Cond.laysFinal "PumpCrossingModel" "PumpCrossingModel" "paid" "[I") ∈ lw_all := lw_g (lw_at lw_m8 164 rfl) rfl
theorem q1941 : (Jvm.Cond.soleField "PumpCrossingModel" "paid") ∈ lw_all := lw_g (lw_at lw_m8 165 rfl) rfl
theorem q1942 : (Jvm.Cond.laysFinal "PumpCrossingModel" "PumpCrossingModel" "tSort" "[I") ∈ lw_all := lw_g (lw_at lw_m8 166 rfl) rfl
theorem q1943 : (Jvm.Cond.soleField "PumpCrossingModel" "tSort") ∈ lw_all := lw_g (lw_at lw_m8 167 rfl) rfl
theorem q1944 : (Jvm.Cond.laysFinal "PumpCrossingModel" "PumpCrossingModel" "tMany" "[I") ∈ lw_all := lw_g (lw_at lw_m8 168 rfl) rfl
theorem q1945 : (Jvm.Cond.soleField "PumpCrossingModel" "tMany") ∈ lw_all := lw_g (lw_at lw_m8 169 rfl) rfl
theorem q1946 : (Jvm.Cond.laysFinal "PumpCrossingModel" "PumpCrossingModel" "numbers" "[J") ∈ lw_all := lw_g (lw_at lw_m8 170 rfl) rfl
theorem q1947 : (Jvm.Cond.soleField "PumpCrossingModel" "numbers") ∈ lw_all := lw_g (lw_at lw_m8 171 rfl) rfl
theorem q1948 : (Jvm.Cond.superclass "PumpCrossingModel" "java/lang/Object") ∈ lw_all := lw_g (lw_at lw_m8 172 rfl) rfl
theorem q1951 : (Jvm.Cond.instanceMethod ({ cls := "PumpCrossingModel", name := "thrown", desc := "()I" } : Jvm.MethodName)) ∈ lw_all := lw_g (lw_at lw_m8 175 rfl) rfl
theorem q1952 : (Jvm.Cond.selects "PumpCrossingModel" ({ cls := "PumpCrossingModel", name := "thrown", desc := "()I" } : Jvm.MethodName) ({ cls := "PumpCrossingModel", name := "thrown", desc := "()I" } : Jvm.MethodName)) ∈ lw_all := lw_g (lw_at lw_m8 176 rfl) rfl
theorem q1953 : (Jvm.Cond.code ({ cls := "PumpCrossingModel", name := "thrown", desc := "()I" } : Jvm.MethodName) prog_29_method_2_code (1 : Nat) (Option.some Jvm.ClassFile.FieldType.int)) ∈ lw_all := lw_g (lw_at lw_m8 177 rfl) rfl
theorem q1955 : (Jvm.Cond.instanceMethod ({ cls := "PumpCrossingModel", name := "station", desc := "(III)I" } : Jvm.MethodName)) ∈ lw_all := lw_g (lw_at lw_m8 179 rfl) rfl
theorem q1956 : (Jvm.Cond.selects "PumpCrossingModel" ({ cls := "PumpCrossingModel", name := "station", desc := "(III)I" } : Jvm.MethodName) ({ cls := "PumpCrossingModel", name := "station", desc := "(III)I" } : Jvm.MethodName)) ∈ lw_all := lw_g (lw_at lw_m8 180 rfl) rfl
theorem q1957 : (Jvm.Cond.code ({ cls := "PumpCrossingModel", name := "station", desc := "(III)I" } : Jvm.MethodName) prog_29_method_6_code (5 : Nat) (Option.some Jvm.ClassFile.FieldType.int)) ∈ lw_all := lw_g (lw_at lw_m8 181 rfl) rfl
theorem q1958 : (Jvm.Cond.methodLink "PumpCrossingModel" (83 : Nat) ({ cls := "PumpCrossingModel", name := "fails", desc := "(I)I" } : Jvm.MethodName)) ∈ lw_all := lw_g (lw_at lw_m8 182 rfl) rfl
theorem q1959 : (Jvm.Cond.privateMethod ({ cls := "PumpCrossingModel", name := "fails", desc := "(I)I" } : Jvm.MethodName)) ∈ lw_tbl := lw_at lw_m8 183 rfl
theorem q1960 : (Jvm.Cond.instanceMethod ({ cls := "PumpCrossingModel", name := "fails", desc := "(I)I" } : Jvm.MethodName)) ∈ lw_all := lw_g (lw_at lw_m8 184 rfl) rfl
theorem q1961 : (Jvm.Cond.code ({ cls := "PumpCrossingModel", name := "fails", desc := "(I)I" } : Jvm.MethodName) prog_29_method_3_code (2 : Nat) (Option.some Jvm.ClassFile.FieldType.int)) ∈ lw_all := lw_g (lw_at lw_m8 185 rfl) rfl
theorem q1962 : (Jvm.Cond.constantLong "PumpCrossingModel" (87 : Nat) (99 : Int64)) ∈ lw_all := lw_g (lw_at lw_m8 186 rfl) rfl
theorem q1963 : (Jvm.Cond.methodLink "PumpCrossingModel" (79 : Nat) ({ cls := "PumpCrossingModel", name := "within", desc := "(JJJ)Z" } : Jvm.MethodName)) ∈ lw_all := lw_g (lw_at lw_m8 187 rfl) rfl
theorem q1964 : (Jvm.Cond.static ({ cls := "PumpCrossingModel", name := "within", desc := "(JJJ)Z" } : Jvm.MethodName)) ∈ lw_all := lw_g (lw_at lw_m8 188 rfl) rfl
theorem q1965 : (Jvm.Cond.code ({ cls := "PumpCrossingModel", name := "within", desc := "(JJJ)Z" } : Jvm.MethodName) prog_29_method_4_code (6 : Nat) (Option.some Jvm.ClassFile.FieldType.boolean)) ∈ lw_all := lw_g (lw_at lw_m8 189 rfl) rfl
theorem q1966 : (Jvm.Cond.constantLong "PumpCrossingModel" (89 : Nat) (3 : Int64)) ∈ lw_all := lw_g (lw_at lw_m8 190 rfl) rfl
theorem q1968 : (Jvm.Cond.instanceMethod ({ cls := "PumpCrossingModel", name := "driver", desc := "(IIII)I" } : Jvm.MethodName)) ∈ lw_all := lw_g (lw_at lw_m8 192 rfl) rfl
theorem q1969 : (Jvm.Cond.selects "PumpCrossingModel" ({ cls := "PumpCrossingModel", name := "driver", desc := "(IIII)I" } : Jvm.MethodName) ({ cls := "PumpCrossingModel", name := "driver", desc := "(IIII)I" } : Jvm.MethodName)) ∈ lw_all := lw_g (lw_at lw_m8 193 rfl) rfl
theorem q1970 : (Jvm.Cond.code ({ cls := "PumpCrossingModel", name := "driver", desc := "(IIII)I" } : Jvm.MethodName) prog_29_method_7_code (6 : Nat) (Option.some Jvm.ClassFile.FieldType.int)) ∈ lw_all := lw_g (lw_at lw_m8 194 rfl) rfl
theorem q1971 : (Jvm.Cond.methodLink "PumpCrossingModel" (91 : Nat) ({ cls := "PumpCrossingModel", name := "isStation", desc := "(I)Z" } : Jvm.MethodName)) ∈ lw_all := lw_g (lw_at lw_m8 195 rfl) rfl
theorem q1972 : (Jvm.Cond.privateMethod ({ cls := "PumpCrossingModel", name := "isStation", desc := "(I)Z" } : Jvm.MethodName)) ∈ lw_tbl := lw_at lw_m8 196 rfl
theorem q1973 : (Jvm.Cond.instanceMethod ({ cls := "PumpCrossingModel", name := "isStation", desc := "(I)Z" } : Jvm.MethodName)) ∈ lw_all := lw_g (lw_at lw_m8 197 rfl) rfl
theorem q1974 : (Jvm.Cond.code ({ cls := "PumpCrossingModel", name := "isStation", desc := "(I)Z" } : Jvm.MethodName) prog_29_method_5_code (2 : Nat) (Option.some Jvm.ClassFile.FieldType.boolean)) ∈ lw_all := lw_g (lw_at lw_m8 198 rfl) rfl
theorem q1975 : (Jvm.Cond.constantLong "PumpCrossingModel" (95 : Nat) (20 : Int64)) ∈ lw_all := lw_g (lw_at lw_m8 199 rfl) rfl
theorem q1977 : (Jvm.Cond.instanceMethod ({ cls := "PumpCrossingModel", name := "cost", desc := "(II)I" } : Jvm.MethodName)) ∈ lw_all := lw_g (lw_at lw_m8 201 rfl) rfl
theorem q1978 : (Jvm.Cond.selects "PumpCrossingModel" ({ cls := "PumpCrossingModel", name := "cost", desc := "(II)I" } : Jvm.MethodName) ({ cls := "PumpCrossingModel", name := "cost", desc := "(II)I" } : Jvm.MethodName)) ∈ lw_all := lw_g (lw_at lw_m8 202 rfl) rfl
theorem q1979 : (Jvm.Cond.code ({ cls := "PumpCrossingModel", name := "cost", desc := "(II)I" } : Jvm.MethodName) prog_29_method_8_code (4 : Nat) (Option.some Jvm.ClassFile.FieldType.int)) ∈ lw_all := lw_g (lw_at lw_m8 203 rfl) rfl
theorem q1980 : (Jvm.Cond.methodLink "PumpCrossingModel" (97 : Nat) ({ cls := "PumpCrossingModel", name := "keepsChange", desc := "(II)V" } : Jvm.MethodName)) ∈ lw_all := lw_g (lw_at lw_m8 204 rfl) rfl
theorem q1981 : (Jvm.Cond.privateMethod ({ cls := "PumpCrossingModel", name := "keepsChange", desc := "(II)V" } : Jvm.MethodName)) ∈ lw_tbl := lw_at lw_m8 205 rfl
theorem q1982 : (Jvm.Cond.instanceMethod ({ cls := "PumpCrossingModel", name := "keepsChange", desc := "(II)V" } : Jvm.MethodName)) ∈ lw_all := lw_g (lw_at lw_m8 206 rfl) rfl
theorem q1983 : (Jvm.Cond.code ({ cls := "PumpCrossingModel", name := "keepsChange", desc := "(II)V" } : Jvm.MethodName) prog_29_method_9_code (4 : Nat) (Option.none : Option Jvm.ClassFile.FieldType)) ∈ lw_all := lw_g (lw_at lw_m8 207 rfl) rfl
theorem q1985 : (Jvm.Cond.instanceMethod ({ cls := "PumpCrossingModel", name := "late", desc := "(II)I" } : Jvm.MethodName)) ∈ lw_all := lw_g (lw_at lw_m8 209 rfl) rfl
theorem q1986 : (Jvm.Cond.selects "PumpCrossingModel" ({ cls := "PumpCrossingModel", name := "late", desc := "(II)I" } : Jvm.MethodName) ({ cls := "PumpCrossingModel", name := "late", desc := "(II)I" } : Jvm.MethodName)) ∈ lw_all := lw_g (lw_at lw_m8 210 rfl) rfl
theorem q1987 : (Jvm.Cond.code ({ cls := "PumpCrossingModel", name := "late", desc := "(II)I" } : Jvm.MethodName) prog_29_method_10_code (4 : Nat) (Option.some Jvm.ClassFile.FieldType.int)) ∈ lw_all := lw_g (lw_at lw_m8 211 rfl) rfl
theorem q1989 : (Jvm.Cond.instanceMethod ({ cls := "PumpCrossingModel", name := "feed", desc := "(IIIII)I" } : Jvm.MethodName)) ∈ lw_all := lw_g (lw_at lw_m8 213 rfl) rfl
theorem q1990 : (Jvm.Cond.selects "PumpCrossingModel" ({ cls := "PumpCrossingModel", name := "feed", desc := "(IIIII)I" } : Jvm.MethodName) ({ cls := "PumpCrossingModel", name := "feed", desc := "(IIIII)I" } : Jvm.MethodName)) ∈ lw_all := lw_g (lw_at lw_m8 214 rfl) rfl
theorem q1991 : (Jvm.Cond.code ({ cls := "PumpCrossingModel", name := "feed", desc := "(IIIII)I" } : Jvm.MethodName) prog_29_method_11_code (8 : Nat) (Option.some Jvm.ClassFile.FieldType.int)) ∈ lw_all := lw_g (lw_at lw_m8 215 rfl) rfl
theorem q1993 : (Jvm.Cond.instanceMethod ({ cls := "PumpCrossingModel", name := "rules", desc := "(II)I" } : Jvm.MethodName)) ∈ lw_all := lw_g (lw_at lw_m8 217 rfl) rfl
theorem q1994 : (Jvm.Cond.selects "PumpCrossingModel" ({ cls := "PumpCrossingModel", name := "rules", desc := "(II)I" } : Jvm.MethodName) ({ cls := "PumpCrossingModel", name := "rules", desc := "(II)I" } : Jvm.MethodName)) ∈ lw_all := lw_g (lw_at lw_m8 218 rfl) rfl
theorem q1995 : (Jvm.Cond.code ({ cls := "PumpCrossingModel", name := "rules", desc := "(II)I" } : Jvm.MethodName) prog_29_method_32_code (4 : Nat) (Option.some Jvm.ClassFile.FieldType.int)) ∈ lw_all := lw_g (lw_at lw_m8 219 rfl) rfl
theorem q1996 : (Jvm.Cond.methodLink "PumpCrossingModel" (239 : Nat) ({ cls := "PumpCrossingModel", name := "starts", desc := "(I)V" } : Jvm.MethodName)) ∈ lw_all := lw_g (lw_at lw_m8 220 rfl) rfl
theorem q1997 : (Jvm.Cond.privateMethod ({ cls := "PumpCrossingModel", name := "starts", desc := "(I)V" } : Jvm.MethodName)) ∈ lw_tbl := lw_at lw_m8 221 rfl
theorem q1998 : (Jvm.Cond.instanceMethod ({ cls := "PumpCrossingModel", name := "starts", desc := "(I)V" } : Jvm.MethodName)) ∈ lw_all := lw_g (lw_at lw_m8 222 rfl) rfl
theorem q1999 : (Jvm.Cond.code ({ cls := "PumpCrossingModel", name := "starts", desc := "(I)V" } : Jvm.MethodName) prog_29_method_21_code (2 : Nat) (Option.none : Option Jvm.ClassFile.FieldType)) ∈ lw_all := lw_g (lw_at lw_m8 223 rfl) rfl
theorem q2000 : (Jvm.Cond.methodLink "PumpCrossingModel" (154 : Nat) ({ cls := "PumpCrossingModel", name := "next", desc := "()V" } : Jvm.MethodName)) ∈ lw_all := lw_g (lw_at lw_m8 224 rfl) rfl
theorem q2001 : (Jvm.Cond.privateMethod ({ cls := "PumpCrossingModel", name := "next", desc := "()V" } : Jvm.MethodName)) ∈ lw_tbl := lw_at lw_m8 225 rfl
theorem q2002 : (Jvm.Cond.instanceMethod ({ cls := "PumpCrossingModel", name := "next", desc := "()V" } : Jvm.MethodName)) ∈ lw_all := lw_g (lw_at lw_m8 226 rfl) rfl
theorem q2003 : (Jvm.Cond.code ({ cls := "PumpCrossingModel", name := "next", desc := "()V" } : Jvm.MethodName) prog_29_method_16_code (2 : Nat) (Option.none : Option Jvm.ClassFile.FieldType)) ∈ lw_all := lw_g (lw_at lw_m8 227 rfl) rfl
theorem q2004 : (Jvm.Cond.methodLink "PumpCrossingModel" (119 : Nat) ({ cls := "PumpCrossingModel", name := "isLetter", desc := "(I)Z" } : Jvm.MethodName)) ∈ lw_all := lw_g (lw_at lw_m8 228 rfl) rfl
theorem q2005 : (Jvm.Cond.static ({ cls := "PumpCrossingModel", name := "isLetter", desc := "(I)Z" } : Jvm.MethodName)) ∈ lw_all := lw_g (lw_at lw_m8 229 rfl) rfl
theorem q2006 : (Jvm.Cond.code ({ cls := "PumpCrossingModel", name := "isLetter", desc := "(I)Z" } : Jvm.MethodName) prog_29_method_13_code (1 : Nat) (Option.some Jvm.ClassFile.FieldType.boolean)) ∈ lw_all := lw_g (lw_at lw_m8 230 rfl) rfl
theorem q2007 : (Jvm.Cond.methodLink "PumpCrossingModel" (122 : Nat) ({ cls := "PumpCrossingModel", name := "see", desc := "(I)I" } : Jvm.MethodName)) ∈ lw_all := lw_g (lw_at lw_m8 231 rfl) rfl
theorem q2008 : (Jvm.Cond.privateMethod ({ cls := "PumpCrossingModel", name := "see", desc := "(I)I" } : Jvm.MethodName)) ∈ lw_tbl := lw_at lw_m8 232 rfl
theorem q2009 : (Jvm.Cond.instanceMethod ({ cls := "PumpCrossingModel", name := "see", desc := "(I)I" } : Jvm.MethodName)) ∈ lw_all := lw_g (lw_at lw_m8 233 rfl) rfl
theorem q2010 : (Jvm.Cond.code ({ cls := "PumpCrossingModel", name := "see", desc := "(I)I" } : Jvm.MethodName) prog_29_method_12_code (2 : Nat) (Option.some Jvm.ClassFile.FieldType.int)) ∈ lw_all := lw_g (lw_at lw_m8 234 rfl) rfl
theorem q2011 : (Jvm.Cond.methodLink "PumpCrossingModel" (125 : Nat) ({ cls := "PumpCrossingModel", name := "isDigit", desc := "(I)Z" } : Jvm.MethodName)) ∈ lw_all := lw_g (lw_at lw_m8 235 rfl) rfl
theorem q2012 : (Jvm.Cond.static ({ cls := "PumpCrossingModel", name := "isDigit", desc := "(I)Z" } : Jvm.MethodName)) ∈ lw_all := lw_g (lw_at lw_m8 236 rfl) rfl
theorem q2013 : (Jvm.Cond.code ({ cls := "PumpCrossingModel", name := "isDigit", desc := "(I)Z" } : Jvm.MethodName) prog_29_method_14_code (1 : Nat) (Option.some Jvm.ClassFile.FieldType.boolean)) ∈ lw_all := lw_g (lw_at lw_m8 237 rfl) rfl
theorem q2014 : (Jvm.Cond.methodLink "PumpCrossingModel" (131 : Nat) ({ cls := "PumpCrossingModel", name := "isSign", desc := "(I)Z" } : Jvm.MethodName)) ∈ lw_all := lw_g (lw_at lw_m8 238 rfl) rfl
theorem q2015 : (Jvm.Cond.static ({ cls := "PumpCrossingModel", name := "isSign", desc := "(I)Z" } : Jvm.MethodName)) ∈ lw_all := lw_g (lw_at lw_m8 239 rfl) rfl
theorem q2016 : (Jvm.Cond.code ({ cls := "PumpCrossingModel", name := "isSign", desc := "(I)Z" } : Jvm.MethodName) prog_29_method_15_code (1 : Nat) (Option.some Jvm.ClassFile.FieldType.boolean)) ∈ lw_all := lw_g (lw_at lw_m9 0 rfl) rfl
theorem q2017 : (Jvm.Cond.methodLink "PumpCrossingModel" (242 : Nat) ({ cls := "PumpCrossingModel", name := "readRule", desc := "()V" } : Jvm.MethodName)) ∈ lw_all := lw_g (lw_at lw_m9 1 rfl) rfl
theorem q2018 : (Jvm.Cond.privateMethod ({ cls := "PumpCrossingModel", name := "readRule", desc := "()V" } : Jvm.MethodName)) ∈ lw_tbl := lw_at lw_m9 2 rfl
theorem q2019 : (Jvm.Cond.instanceMethod ({ cls := "PumpCrossingModel", name := "readRule", desc := "()V" } : Jvm.MethodName)) ∈ lw_all := lw_g (lw_at lw_m9 3 rfl) rfl
theorem q2020 : (Jvm.Cond.code ({ cls := "PumpCrossingModel", name := "readRule", desc := "()V" } : Jvm.MethodName) prog_29_method_31_code (4 : Nat) (Option.none : Option Jvm.ClassFile.FieldType)) ∈ lw_all := lw_g (lw_at lw_m9 4 rfl) rfl
theorem q2021 : (Jvm.Cond.methodLink "PumpCrossingModel" (224 : Nat) ({ cls := "PumpCrossingModel", name := "doing", desc := "()I" } : Jvm.MethodName)) ∈ lw_all := lw_g (lw_at lw_m9 5 rfl) rfl
theorem q2022 : (Jvm.Cond.privateMethod ({ cls := "PumpCrossingModel", name := "doing", desc := "()I" } : Jvm.MethodName)) ∈ lw_tbl := lw_at lw_m9 6 rfl
theorem q2023 : (Jvm.Cond.instanceMethod ({ cls := "PumpCrossingModel", name := "doing", desc := "()I" } : Jvm.MethodName)) ∈ lw_all := lw_g (lw_at lw_m9 7 rfl) rfl
theorem q2024 : (Jvm.Cond.code ({ cls := "PumpCrossingModel", name := "doing", desc := "()I" } : Jvm.MethodName) prog_29_method_30_code (1 : Nat) (Option.some Jvm.ClassFile.FieldType.int)) ∈ lw_all := lw_g (lw_at lw_m9 8 rfl) rfl
theorem q2025 : (Jvm.Cond.stringRef "PumpCrossingModel" (212 : Nat) "up") ∈ lw_tbl := lw_at lw_m9 9 rfl
theorem q2026 : (Jvm.Cond.methodLink "PumpCrossingModel" (165 : Nat) ({ cls := "PumpCrossingModel", name := "isWord", desc := "(Ljava/lang/String;)Z" } : Jvm.MethodName)) ∈ lw_all := lw_g (lw_at lw_m9 10 rfl) rfl
theorem q2027 : (Jvm.Cond.privateMethod ({ cls := "PumpCrossingModel", name := "isWord", desc := "(Ljava/lang/String;)Z" } : Jvm.MethodName)) ∈ lw_tbl := lw_at lw_m9 11 rfl
theorem q2028 : (Jvm.Cond.instanceMethod ({ cls := "PumpCrossingModel", name := "isWord", desc := "(Ljava/lang/String;)Z" } : Jvm.MethodName)) ∈ lw_all := lw_g (lw_at lw_m9 12 rfl) rfl
theorem q2029 : (Jvm.Cond.code ({ cls := "PumpCrossingModel", name := "isWord", desc := "(Ljava/lang/String;)Z" } : Jvm.MethodName) prog_29_method_18_code (4 : Nat) (Option.some Jvm.ClassFile.FieldType.boolean)) ∈ lw_all := lw_g (lw_at lw_m9 13 rfl) rfl
theorem q2030 : (Jvm.Cond.methodLink "PumpCrossingModel" (140 : Nat) ({ cls := "java/lang/String", name := "length", desc := "()I" } : Jvm.MethodName)) ∈ lw_all := lw_g (lw_at lw_m9 14 rfl) rfl
theorem q2031 : (Jvm.Cond.methodLink "PumpCrossingModel" (146 : Nat) ({ cls := "java/lang/String", name := "charAt", desc := "(I)C" } : Jvm.MethodName)) ∈ lw_all := lw_g (lw_at lw_m9 15 rfl) rfl
theorem q2032 : (Jvm.Cond.stringRef "PumpCrossingModel" (214 : Nat) "down") ∈ lw_tbl := lw_at lw_m9 16 rfl
theorem q2033 : (Jvm.Cond.stringRef "PumpCrossingModel" (216 : Nat) "to") ∈ lw_tbl := lw_at lw_m9 17 rfl
theorem q2034 : (Jvm.Cond.stringRef "PumpCrossingModel" (218 : Nat) "below") ∈ lw_tbl := lw_at lw_m9 18 rfl
theorem q2035 : (Jvm.Cond.stringRef "PumpCrossingModel" (220 : Nat) "match") ∈ lw_tbl := lw_at lw_m9 19 rfl
theorem q2036 : (Jvm.Cond.stringRef "PumpCrossingModel" (222 : Nat) "keep") ∈ lw_tbl := lw_at lw_m9 20 rfl
theorem q2037 : (Jvm.Cond.methodLink "PumpCrossingModel" (150 : Nat) ({ cls := "PumpCrossingModel", name := "blames", desc := "(I)V" } : Jvm.MethodName)) ∈ lw_all := lw_g (lw_at lw_m9 21 rfl) rfl
theorem q2038 : (Jvm.Cond.privateMethod ({ cls := "PumpCrossingModel", name := "blames", desc := "(I)V" } : Jvm.MethodName)) ∈ lw_tbl := lw_at lw_m9 22 rfl
theorem q2039 : (Jvm.Cond.instanceMethod ({ cls := "PumpCrossingModel", name := "blames", desc := "(I)V" } : Jvm.MethodName)) ∈ lw_all := lw_g (lw_at lw_m9 23 rfl) rfl
theorem q2040 : (Jvm.Cond.code ({ cls := "PumpCrossingModel", name := "blames", desc := "(I)V" } : Jvm.MethodName) prog_29_method_17_code (2 : Nat) (Option.none : Option Jvm.ClassFile.FieldType)) ∈ lw_all := lw_g (lw_at lw_m9 24 rfl) rfl
theorem q2041 : (Jvm.Cond.methodLink "PumpCrossingModel" (227 : Nat) ({ cls := "PumpCrossingModel", name := "number", desc := "(II)I" } : Jvm.MethodName)) ∈ lw_all := lw_g (lw_at lw_m9 25 rfl) rfl
theorem q2042 : (Jvm.Cond.privateMethod ({ cls := "PumpCrossingModel", name := "number", desc := "(II)I" } : Jvm.MethodName)) ∈ lw_tbl := lw_at lw_m9 26 rfl
theorem q2043 : (Jvm.Cond.instanceMethod ({ cls := "PumpCrossingModel", name := "number", desc := "(II)I" } : Jvm.MethodName)) ∈ lw_all := lw_g (lw_at lw_m9 27 rfl) rfl
theorem q2044 : (Jvm.Cond.code ({ cls := "PumpCrossingModel", name := "number", desc := "(II)I" } : Jvm.MethodName) prog_29_method_19_code (4 : Nat) (Option.some Jvm.ClassFile.FieldType.int)) ∈ lw_all := lw_g (lw_at lw_m9 28 rfl) rfl
theorem q2045 : (Jvm.Cond.methodLink "PumpCrossingModel" (188 : Nat) ({ cls := "PumpCrossingModel", name := "puts", desc := "(I)V" } : Jvm.MethodName)) ∈ lw_all := lw_g (lw_at lw_m9 29 rfl) rfl
theorem q2046 : (Jvm.Cond.privateMethod ({ cls := "PumpCrossingModel", name := "puts", desc := "(I)V" } : Jvm.MethodName)) ∈ lw_tbl := lw_at lw_m9 30 rfl
theorem q2047 : (Jvm.Cond.instanceMethod ({ cls := "PumpCrossingModel", name := "puts", desc := "(I)V" } : Jvm.MethodName)) ∈ lw_all := lw_g (lw_at lw_m9 31 rfl) rfl
theorem q2048 : (Jvm.Cond.code ({ cls := "PumpCrossingModel", name := "puts", desc := "(I)V" } : Jvm.MethodName) prog_29_method_23_code (2 : Nat) (Option.none : Option Jvm.ClassFile.FieldType)) ∈ lw_all := lw_g (lw_at lw_m9 32 rfl) rfl
theorem q2049 : (Jvm.Cond.stringRef "PumpCrossingModel" (231 : Nat) "when") ∈ lw_tbl := lw_at lw_m9 33 rfl
theorem q2050 : (Jvm.Cond.methodLink "PumpCrossingModel" (233 : Nat) ({ cls := "PumpCrossingModel", name := "readSome", desc := "()V" } : Jvm.MethodName)) ∈ lw_all := lw_g (lw_at lw_m9 34 rfl) rfl
theorem q2051 : (Jvm.Cond.privateMethod ({ cls := "PumpCrossingModel", name := "readSome", desc := "()V" } : Jvm.MethodName)) ∈ lw_tbl := lw_at lw_m9 35 rfl
theorem q2052 : (Jvm.Cond.instanceMethod ({ cls := "PumpCrossingModel", name := "readSome", desc := "()V" } : Jvm.MethodName)) ∈ lw_all := lw_g (lw_at lw_m9 36 rfl) rfl
theorem q2053 : (Jvm.Cond.code ({ cls := "PumpCrossingModel", name := "readSome", desc := "()V" } : Jvm.MethodName) prog_29_method_29_code (1 : Nat) (Option.none : Option Jvm.ClassFile.FieldType)) ∈ lw_all := lw_g (lw_at lw_m9 37 rfl) rfl
theorem q2054 : (Jvm.Cond.methodLink "PumpCrossingModel" (207 : Nat) ({ cls := "PumpCrossingModel", name := "readAll", desc := "()V" } : Jvm.MethodName)) ∈ lw_all := lw_g (lw_at lw_m9 38 rfl) rfl
theorem q2055 : (Jvm.Cond.privateMethod ({ cls := "PumpCrossingModel", name := "readAll", desc := "()V" } : Jvm.MethodName)) ∈ lw_tbl := lw_at lw_m9 39 rfl
theorem q2056 : (Jvm.Cond.instanceMethod ({ cls := "PumpCrossingModel", name := "readAll", desc := "()V" } : Jvm.MethodName)) ∈ lw_all := lw_g (lw_at lw_m9 40 rfl) rfl
theorem q2057 : (Jvm.Cond.code ({ cls := "PumpCrossingModel", name := "readAll", desc := "()V" } : Jvm.MethodName) prog_29_method_28_code (1 : Nat) (Option.none : Option Jvm.ClassFile.FieldType)) ∈ lw_all := lw_g (lw_at lw_m9 41 rfl) rfl
theorem q2058 : (Jvm.Cond.methodLink "PumpCrossingModel" (199 : Nat) ({ cls := "PumpCrossingModel", name := "readClause", desc := "()V" } : Jvm.MethodName)) ∈ lw_all := lw_g (lw_at lw_m9 42 rfl) rfl
theorem q2059 : (Jvm.Cond.privateMethod ({ cls := "PumpCrossingModel", name := "readClause", desc := "()V" } : Jvm.MethodName)) ∈ lw_tbl := lw_at lw_m9 43 rfl
theorem q2060 : (Jvm.Cond.instanceMethod ({ cls := "PumpCrossingModel", name := "readClause", desc := "()V" } : Jvm.MethodName)) ∈ lw_all := lw_g (lw_at lw_m9 44 rfl) rfl
theorem q2061 : (Jvm.Cond.code ({ cls := "PumpCrossingModel", name := "readClause", desc := "()V" } : Jvm.MethodName) prog_29_method_27_code (2 : Nat) (Option.none : Option Jvm.ClassFile.FieldType)) ∈ lw_all := lw_g (lw_at lw_m9 45 rfl) rfl
theorem q2062 : (Jvm.Cond.stringRef "PumpCrossingModel" (194 : Nat) "not") ∈ lw_tbl := lw_at lw_m9 46 rfl
theorem q2063 : (Jvm.Cond.methodLink "PumpCrossingModel" (202 : Nat) ({ cls := "PumpCrossingModel", name := "readSum", desc := "()V" } : Jvm.MethodName)) ∈ lw_all := lw_g (lw_at lw_m9 47 rfl) rfl
theorem q2064 : (Jvm.Cond.privateMethod ({ cls := "PumpCrossingModel", name := "readSum", desc := "()V" } : Jvm.MethodName)) ∈ lw_tbl := lw_at lw_m9 48 rfl
theorem q2065 : (Jvm.Cond.instanceMethod ({ cls := "PumpCrossingModel", name := "readSum", desc := "()V" } : Jvm.MethodName)) ∈ lw_all := lw_g (lw_at lw_m9 49 rfl) rfl
theorem q2066 : (Jvm.Cond.code ({ cls := "PumpCrossingModel", name := "readSum", desc := "()V" } : Jvm.MethodName) prog_29_method_26_code (2 : Nat) (Option.none : Option Jvm.ClassFile.FieldType)) ∈ lw_all := lw_g (lw_at lw_m9 50 rfl) rfl
theorem q2067 : (Jvm.Cond.methodLink "PumpCrossingModel" (191 : Nat) ({ cls := "PumpCrossingModel", name := "readTerm", desc := "()V" } : Jvm.MethodName)) ∈ lw_all := lw_g (lw_at lw_m9 51 rfl) rfl
theorem q2068 : (Jvm.Cond.privateMethod ({ cls := "PumpCrossingModel", name := "readTerm", desc := "()V" } : Jvm.MethodName)) ∈ lw_tbl := lw_at lw_m9 52 rfl
theorem q2069 : (Jvm.Cond.instanceMethod ({ cls := "PumpCrossingModel", name := "readTerm", desc := "()V" } : Jvm.MethodName)) ∈ lw_all := lw_g (lw_at lw_m9 53 rfl) rfl
theorem q2070 : (Jvm.Cond.code ({ cls := "PumpCrossingModel", name := "readTerm", desc := "()V" } : Jvm.MethodName) prog_29_method_25_code (2 : Nat) (Option.none : Option Jvm.ClassFile.FieldType)) ∈ lw_all := lw_g (lw_at lw_m9 54 rfl) rfl
theorem q2071 : (Jvm.Cond.methodLink "PumpCrossingModel" (185 : Nat) ({ cls := "PumpCrossingModel", name := "known", desc := "()I" } : Jvm.MethodName)) ∈ lw_all := lw_g (lw_at lw_m9 55 rfl) rfl
theorem q2072 : (Jvm.Cond.privateMethod ({ cls := "PumpCrossingModel", name := "known", desc := "()I" } : Jvm.MethodName)) ∈ lw_tbl := lw_at lw_m9 56 rfl
theorem q2073 : (Jvm.Cond.instanceMethod ({ cls := "PumpCrossingModel", name := "known", desc := "()I" } : Jvm.MethodName)) ∈ lw_all := lw_g (lw_at lw_m9 57 rfl) rfl
theorem q2074 : (Jvm.Cond.code ({ cls := "PumpCrossingModel", name := "known", desc := "()I" } : Jvm.MethodName) prog_29_method_24_code (1 : Nat) (Option.some Jvm.ClassFile.FieldType.int)) ∈ lw_all := lw_g (lw_at lw_m9 58 rfl) rfl
theorem q2075 : (Jvm.Cond.stringRef "PumpCrossingModel" (163 : Nat) "own") ∈ lw_tbl := lw_at lw_m9 59 rfl
theorem q2076 : (Jvm.Cond.stringRef "PumpCrossingModel" (169 : Nat) "least") ∈ lw_tbl := lw_at lw_m9 60 rfl
theorem q2077 : (Jvm.Cond.stringRef "PumpCrossingModel" (171 : Nat) "most") ∈ lw_tbl := lw_at lw_m9 61 rfl
theorem q2078 : (Jvm.Cond.stringRef "PumpCrossingModel" (173 : Nat) "cost") ∈ lw_tbl := lw_at lw_m9 62 rfl
theorem q2079 : (Jvm.Cond.stringRef "PumpCrossingModel" (175 : Nat) "hour") ∈ lw_tbl := lw_at lw_m9 63 rfl
theorem q2080 : (Jvm.Cond.stringRef "PumpCrossingModel" (177 : Nat) "day") ∈ lw_tbl := lw_at lw_m9 64 rfl
theorem q2081 : (Jvm.Cond.stringRef "PumpCrossingModel" (179 : Nat) "since") ∈ lw_tbl := lw_at lw_m9 65 rfl
theorem q2082 : (Jvm.Cond.stringRef "PumpCrossingModel" (181 : Nat) "rose") ∈ lw_tbl := lw_at lw_m9 66 rfl
theorem q2083 : (Jvm.Cond.stringRef "PumpCrossingModel" (183 : Nat) "fell") ∈ lw_tbl := lw_at lw_m9 67 rfl
theorem q2084 : (Jvm.Cond.stringRef "PumpCrossingModel" (205 : Nat) "and") ∈ lw_tbl := lw_at lw_m9 68 rfl
theorem q2085 : (Jvm.Cond.stringRef "PumpCrossingModel" (210 : Nat) "or") ∈ lw_tbl := lw_at lw_m9 69 rfl
theorem q2086 : (Jvm.Cond.methodLink "PumpCrossingModel" (236 : Nat) ({ cls := "PumpCrossingModel", name := "stop", desc := "()V" } : Jvm.MethodName)) ∈ lw_all := lw_g (lw_at lw_m9 70 rfl) rfl
theorem q2087 : (Jvm.Cond.privateMethod ({ cls := "PumpCrossingModel", name := "stop", desc := "()V" } : Jvm.MethodName)) ∈ lw_tbl := lw_at lw_m9 71 rfl
theorem q2088 : (Jvm.Cond.instanceMethod ({ cls := "PumpCrossingModel", name := "stop", desc := "()V" } : Jvm.MethodName)) ∈ lw_all := lw_g (lw_at lw_m9 72 rfl) rfl
theorem q2089 : (Jvm.Cond.code ({ cls := "PumpCrossingModel", name := "stop", desc := "()V" } : Jvm.MethodName) prog_29_method_20_code (1 : Nat) (Option.none : Option Jvm.ClassFile.FieldType)) ∈ lw_all := lw_g (lw_at lw_m9 73 rfl) rfl
theorem q2090 : (Jvm.Cond.methodLink "PumpCrossingModel" (245 : Nat) ({ cls := "PumpCrossingModel", name := "ends", desc := "(I)I" } : Jvm.MethodName)) ∈ lw_all := lw_g (lw_at lw_m9 74 rfl) rfl
theorem q2091 : (Jvm.Cond.privateMethod ({ cls := "PumpCrossingModel", name := "ends", desc := "(I)I" } : Jvm.MethodName)) ∈ lw_tbl := lw_at lw_m9 75 rfl
theorem q2092 : (Jvm.Cond.instanceMethod ({ cls := "PumpCrossingModel", name := "ends", desc := "(I)I" } : Jvm.MethodName)) ∈ lw_all := lw_g (lw_at lw_m9 76 rfl) rfl
theorem q2093 : (Jvm.Cond.code ({ cls := "PumpCrossingModel", name := "ends", desc := "(I)I" } : Jvm.MethodName) prog_29_method_22_code (2 : Nat) (Option.some Jvm.ClassFile.FieldType.int)) ∈ lw_all := lw_g (lw_at lw_m9 77 rfl) rfl
theorem q2095 : (Jvm.Cond.instanceMethod ({ cls := "PumpCrossingModel", name := "law", desc := "(I)I" } : Jvm.MethodName)) ∈ lw_all := lw_g (lw_at lw_m9 79 rfl) rfl
theorem q2096 : (Jvm.Cond.selects "PumpCrossingModel" ({ cls := "PumpCrossingModel", name := "law", desc := "(I)I" } : Jvm.MethodName) ({ cls := "PumpCrossingModel", name := "law", desc := "(I)I" } : Jvm.MethodName)) ∈ lw_all := lw_g (lw_at lw_m9 80 rfl) rfl
theorem q2097 : (Jvm.Cond.code ({ cls := "PumpCrossingModel", name := "law", desc := "(I)I" } : Jvm.MethodName) prog_29_method_33_code (4 : Nat) (Option.some Jvm.ClassFile.FieldType.int)) ∈ lw_all := lw_g (lw_at lw_m9 81 rfl) rfl
theorem q2098 : (Jvm.Cond.methodLink "PumpCrossingModel" (248 : Nat) ({ cls := "PumpCrossingModel", name := "readLine", desc := "()V" } : Jvm.MethodName)) ∈ lw_all := lw_g (lw_at lw_m9 82 rfl) rfl
theorem q2099 : (Jvm.Cond.privateMethod ({ cls := "PumpCrossingModel", name := "readLine", desc := "()V" } : Jvm.MethodName)) ∈ lw_tbl := lw_at lw_m9 83 rfl
theorem q2100 : (Jvm.Cond.instanceMethod ({ cls := "PumpCrossingModel", name := "readLine", desc := "()V" } : Jvm.MethodName)) ∈ lw_all := lw_g (lw_at lw_m9 84 rfl) rfl
theorem q2101 : (Jvm.Cond.code ({ cls := "PumpCrossingModel", name := "readLine", desc := "()V" } : Jvm.MethodName) prog_29_method_34_code (2 : Nat) (Option.none : Option Jvm.ClassFile.FieldType)) ∈ lw_all := lw_g (lw_at lw_m9 85 rfl) rfl
theorem q2102 : (Jvm.Cond.stringRef "PumpCrossingModel" (251 : Nat) "once") ∈ lw_tbl := lw_at lw_m9 86 rfl
theorem q2103 : (Jvm.Cond.stringRef "PumpCrossingModel" (253 : Nat) "at") ∈ lw_tbl := lw_at lw_m9 87 rfl
theorem q2104 : (Jvm.Cond.stringRef "PumpCrossingModel" (254 : Nat) "cap") ∈ lw_tbl := lw_at lw_m9 88 rfl
theorem q2105 : (Jvm.Cond.stringRef "PumpCrossingModel" (256 : Nat) "told") ∈ lw_tbl := lw_at lw_m9 89 rfl
theorem q2107 : (Jvm.Cond.instanceMethod ({ cls := "PumpCrossingModel", name := "fault", desc := "(I)I" } : Jvm.MethodName)) ∈ lw_all := lw_g (lw_at lw_m9 91 rfl) rfl
theorem q2108 : (Jvm.Cond.selects "PumpCrossingModel" ({ cls := "PumpCrossingModel", name := "fault", desc := "(I)I" } : Jvm.MethodName) ({ cls := "PumpCrossingModel", name := "fault", desc := "(I)I" } : Jvm.MethodName)) ∈ lw_all := lw_g (lw_at lw_m9 92 rfl) rfl
theorem q2109 : (Jvm.Cond.code ({ cls := "PumpCrossingModel", name := "fault", desc := "(I)I" } : Jvm.MethodName) prog_29_method_35_code (2 : Nat) (Option.some Jvm.ClassFile.FieldType.int)) ∈ lw_all := lw_g (lw_at lw_m9 93 rfl) rfl
theorem q2111 : (Jvm.Cond.instanceMethod ({ cls := "PumpCrossingModel", name := "run", desc := "(I)I" } : Jvm.MethodName)) ∈ lw_all := lw_g (lw_at lw_m9 95 rfl) rfl
theorem q2112 : (Jvm.Cond.selects "PumpCrossingModel" ({ cls := "PumpCrossingModel", name := "run", desc := "(I)I" } : Jvm.MethodName) ({ cls := "PumpCrossingModel", name := "run", desc := "(I)I" } : Jvm.MethodName)) ∈ lw_all := lw_g (lw_at lw_m9 96 rfl) rfl
theorem q2113 : (Jvm.Cond.code ({ cls := "PumpCrossingModel", name := "run", desc := "(I)I" } : Jvm.MethodName) prog_29_method_48_code (4 : Nat) (Option.some Jvm.ClassFile.FieldType.int)) ∈ lw_all := lw_g (lw_at lw_m9 97 rfl) rfl
theorem q2114 : (Jvm.Cond.constantLong "PumpCrossingModel" (304 : Nat) (300 : Int64)) ∈ lw_all := lw_g (lw_at lw_m9 98 rfl) rfl
theorem q2115 : (Jvm.Cond.methodLink "PumpCrossingModel" (269 : Nat) ({ cls := "java/lang/Math", name := "min", desc := "(II)I" } : Jvm.MethodName)) ∈ lw_all := lw_g (lw_at lw_m9 99 rfl) rfl
theorem q2116 : (Jvm.Cond.methodLink "PumpCrossingModel" (306 : Nat) ({ cls := "PumpCrossingModel", name := "hour", desc := "()V" } : Jvm.MethodName)) ∈ lw_all := lw_g (lw_at lw_m9 100 rfl) rfl
theorem q2117 : (Jvm.Cond.privateMethod ({ cls := "PumpCrossingModel", name := "hour", desc := "()V" } : Jvm.MethodName)) ∈ lw_tbl := lw_at lw_m9 101 rfl
theorem q2118 : (Jvm.Cond.instanceMethod ({ cls := "PumpCrossingModel", name := "hour", desc := "()V" } : Jvm.MethodName)) ∈ lw_all := lw_g (lw_at lw_m9 102 rfl) rfl
theorem q2119 : (Jvm.Cond.code ({ cls := "PumpCrossingModel", name := "hour", desc := "()V" } : Jvm.MethodName) prog_29_method_47_code (5 : Nat) (Option.none : Option Jvm.ClassFile.FieldType)) ∈ lw_all := lw_g (lw_at lw_m9 103 rfl) rfl
theorem q2120 : (Jvm.Cond.methodLink "PumpCrossingModel" (295 : Nat) ({ cls := "PumpCrossingModel", name := "makes", desc := "(II)I" } : Jvm.MethodName)) ∈ lw_all := lw_g (lw_at lw_m9 104 rfl) rfl
theorem q2121 : (Jvm.Cond.privateMethod ({ cls := "PumpCrossingModel", name := "makes", desc := "(II)I" } : Jvm.MethodName)) ∈ lw_tbl := lw_at lw_m9 105 rfl
theorem q2122 : (Jvm.Cond.instanceMethod ({ cls := "PumpCrossingModel", name := "makes", desc := "(II)I" } : Jvm.MethodName)) ∈ lw_all := lw_g (lw_at lw_m9 106 rfl) rfl
theorem q2123 : (Jvm.Cond.code ({ cls := "PumpCrossingModel", name := "makes", desc := "(II)I" } : Jvm.MethodName) prog_29_method_44_code (6 : Nat) (Option.some Jvm.ClassFile.FieldType.int)) ∈ lw_all := lw_g (lw_at lw_m9 107 rfl) rfl
theorem q2124 : (Jvm.Cond.methodLink "PumpCrossingModel" (266 : Nat) ({ cls := "PumpCrossingModel", name := "seen", desc := "(II)I" } : Jvm.MethodName)) ∈ lw_all := lw_g (lw_at lw_m9 108 rfl) rfl
theorem q2125 : (Jvm.Cond.privateMethod ({ cls := "PumpCrossingModel", name := "seen", desc := "(II)I" } : Jvm.MethodName)) ∈ lw_tbl := lw_at lw_m9 109 rfl
theorem q2126 : (Jvm.Cond.instanceMethod ({ cls := "PumpCrossingModel", name := "seen", desc := "(II)I" } : Jvm.MethodName)) ∈ lw_all := lw_g (lw_at lw_m9 110 rfl) rfl
theorem q2127 : (Jvm.Cond.code ({ cls := "PumpCrossingModel", name := "seen", desc := "(II)I" } : Jvm.MethodName) prog_29_method_36_code (3 : Nat) (Option.some Jvm.ClassFile.FieldType.int)) ∈ lw_all := lw_g (lw_at lw_m9 111 rfl) rfl
theorem q2128 : (Jvm.Cond.methodLink "PumpCrossingModel" (261 : Nat) ({ cls := "java/lang/Math", name := "max", desc := "(II)I" } : Jvm.MethodName)) ∈ lw_all := lw_g (lw_at lw_m9 112 rfl) rfl
theorem q2129 : (Jvm.Cond.methodLink "PumpCrossingModel" (292 : Nat) ({ cls := "PumpCrossingModel", name := "wish", desc := "(II)I" } : Jvm.MethodName)) ∈ lw_all := lw_g (lw_at lw_m9 113 rfl) rfl
theorem q2130 : (Jvm.Cond.privateMethod ({ cls := "PumpCrossingModel", name := "wish", desc := "(II)I" } : Jvm.MethodName)) ∈ lw_tbl := lw_at lw_m9 114 rfl
theorem q2131 : (Jvm.Cond.instanceMethod ({ cls := "PumpCrossingModel", name := "wish", desc := "(II)I" } : Jvm.MethodName)) ∈ lw_all := lw_g (lw_at lw_m9 115 rfl) rfl
theorem q2132 : (Jvm.Cond.code ({ cls := "PumpCrossingModel", name := "wish", desc := "(II)I" } : Jvm.MethodName) prog_29_method_43_code (8 : Nat) (Option.some Jvm.ClassFile.FieldType.int)) ∈ lw_all := lw_g (lw_at lw_m9 116 rfl) rfl
theorem q2133 : (Jvm.Cond.methodLink "PumpCrossingModel" (288 : Nat) ({ cls := "PumpCrossingModel", name := "isSo", desc := "(IIII)Z" } : Jvm.MethodName)) ∈ lw_all := lw_g (lw_at lw_m9 117 rfl) rfl
theorem q2134 : (Jvm.Cond.privateMethod ({ cls := "PumpCrossingModel", name := "isSo", desc := "(IIII)Z" } : Jvm.MethodName)) ∈ lw_tbl := lw_at lw_m9 118 rfl
theorem q2135 : (Jvm.Cond.instanceMethod ({ cls := "PumpCrossingModel", name := "isSo", desc := "(IIII)Z" } : Jvm.MethodName)) ∈ lw_all := lw_g (lw_at lw_m9 119 rfl) rfl
theorem q2136 : (Jvm.Cond.code ({ cls := "PumpCrossingModel", name := "isSo", desc := "(IIII)Z" } : Jvm.MethodName) prog_29_method_42_code (8 : Nat) (Option.some Jvm.ClassFile.FieldType.boolean)) ∈ lw_all := lw_g (lw_at lw_m9 120 rfl) rfl
theorem q2137 : (Jvm.Cond.methodLink "PumpCrossingModel" (281 : Nat) ({ cls := "PumpCrossingModel", name := "worth", desc := "(III)I" } : Jvm.MethodName)) ∈ lw_all := lw_g (lw_at lw_m9 121 rfl) rfl
theorem q2138 : (Jvm.Cond.privateMethod ({ cls := "PumpCrossingModel", name := "worth", desc := "(III)I" } : Jvm.MethodName)) ∈ lw_tbl := lw_at lw_m9 122 rfl
theorem q2139 : (Jvm.Cond.instanceMethod ({ cls := "PumpCrossingModel", name := "worth", desc := "(III)I" } : Jvm.MethodName)) ∈ lw_all := lw_g (lw_at lw_m9 123 rfl) rfl
theorem q2140 : (Jvm.Cond.code ({ cls := "PumpCrossingModel", name := "worth", desc := "(III)I" } : Jvm.MethodName) prog_29_method_40_code (4 : Nat) (Option.some Jvm.ClassFile.FieldType.int)) ∈ lw_all := lw_g (lw_at lw_m9 124 rfl) rfl
theorem q2141 : (Jvm.Cond.methodLink "PumpCrossingModel" (272 : Nat) ({ cls := "PumpCrossingModel", name := "least", desc := "(IIZ)I" } : Jvm.MethodName)) ∈ lw_all := lw_g (lw_at lw_m9 125 rfl) rfl
theorem q2142 : (Jvm.Cond.privateMethod ({ cls := "PumpCrossingModel", name := "least", desc := "(IIZ)I" } : Jvm.MethodName)) ∈ lw_tbl := lw_at lw_m9 126 rfl
theorem q2143 : (Jvm.Cond.instanceMethod ({ cls := "PumpCrossingModel", name := "least", desc := "(IIZ)I" } : Jvm.MethodName)) ∈ lw_all := lw_g (lw_at lw_m9 127 rfl) rfl
theorem q2144 : (Jvm.Cond.code ({ cls := "PumpCrossingModel", name := "least", desc := "(IIZ)I" } : Jvm.MethodName) prog_29_method_38_code (7 : Nat) (Option.some Jvm.ClassFile.FieldType.int)) ∈ lw_all := lw_g (lw_at lw_m9 128 rfl) rfl
theorem q2145 : (Jvm.Cond.methodLink "PumpCrossingModel" (275 : Nat) ({ cls := "PumpCrossingModel", name := "sinceAt", desc := "(II)I" } : Jvm.MethodName)) ∈ lw_all := lw_g (lw_at lw_m9 129 rfl) rfl
theorem q2146 : (Jvm.Cond.privateMethod ({ cls := "PumpCrossingModel", name := "sinceAt", desc := "(II)I" } : Jvm.MethodName)) ∈ lw_tbl := lw_at lw_m9 130 rfl
theorem q2147 : (Jvm.Cond.instanceMethod ({ cls := "PumpCrossingModel", name := "sinceAt", desc := "(II)I" } : Jvm.MethodName)) ∈ lw_all := lw_g (lw_at lw_m9 131 rfl) rfl
theorem q2148 : (Jvm.Cond.code ({ cls := "PumpCrossingModel", name := "sinceAt", desc := "(II)I" } : Jvm.MethodName) prog_29_method_37_code (5 : Nat) (Option.some Jvm.ClassFile.FieldType.int)) ∈ lw_all := lw_g (lw_at lw_m9 132 rfl) rfl
theorem q2149 : (Jvm.Cond.methodLink "PumpCrossingModel" (278 : Nat) ({ cls := "PumpCrossingModel", name := "moved", desc := "(IIZ)I" } : Jvm.MethodName)) ∈ lw_all := lw_g (lw_at lw_m9 133 rfl) rfl
theorem q2150 : (Jvm.Cond.privateMethod ({ cls := "PumpCrossingModel", name := "moved", desc := "(IIZ)I" } : Jvm.MethodName)) ∈ lw_tbl := lw_at lw_m9 134 rfl
theorem q2151 : (Jvm.Cond.instanceMethod ({ cls := "PumpCrossingModel", name := "moved", desc := "(IIZ)I" } : Jvm.MethodName)) ∈ lw_all := lw_g (lw_at lw_m9 135 rfl) rfl
theorem q2152 : (Jvm.Cond.code ({ cls := "PumpCrossingModel", name := "moved", desc := "(IIZ)I" } : Jvm.MethodName) prog_29_method_39_code (7 : Nat) (Option.some Jvm.ClassFile.FieldType.int)) ∈ lw_all := lw_g (lw_at lw_m9 136 rfl) rfl
theorem q2153 : (Jvm.Cond.methodLink "PumpCrossingModel" (285 : Nat) ({ cls := "PumpCrossingModel", name := "both", desc := "(III)I" } : Jvm.MethodName)) ∈ lw_all := lw_g (lw_at lw_m9 137 rfl) rfl
theorem q2154 : (Jvm.Cond.static ({ cls := "PumpCrossingModel", name := "both", desc := "(III)I" } : Jvm.MethodName)) ∈ lw_all := lw_g (lw_at lw_m9 138 rfl) rfl
theorem q2155 : (Jvm.Cond.code ({ cls := "PumpCrossingModel", name := "both", desc := "(III)I" } : Jvm.MethodName) prog_29_method_41_code (3 : Nat) (Option.some Jvm.ClassFile.FieldType.int)) ∈ lw_all := lw_g (lw_at lw_m9 139 rfl) rfl
theorem q2156 : (Jvm.Cond.methodLink "PumpCrossingModel" (298 : Nat) ({ cls := "PumpCrossingModel", name := "present", desc := "()V" } : Jvm.MethodName)) ∈ lw_all := lw_g (lw_at lw_m9 140 rfl) rfl
theorem q2157 : (Jvm.Cond.privateMethod ({ cls := "PumpCrossingModel", name := "present", desc := "()V" } : Jvm.MethodName)) ∈ lw_tbl := lw_at lw_m9 141 rfl
theorem q2158 : (Jvm.Cond.instanceMethod ({ cls := "PumpCrossingModel", name := "present", desc := "()V" } : Jvm.MethodName)) ∈ lw_all := lw_g (lw_at lw_m9 142 rfl) rfl
theorem q2159 : (Jvm.Cond.code ({ cls := "PumpCrossingModel", name := "present", desc := "()V" } : Jvm.MethodName) prog_29_method_46_code (2 : Nat) (Option.none : Option Jvm.ClassFile.FieldType)) ∈ lw_all := lw_g (lw_at lw_m9 143 rfl) rfl
theorem q2160 : (Jvm.Cond.methodLink "PumpCrossingModel" (301 : Nat) ({ cls := "PumpCrossingModel", name := "where", desc := "(I)I" } : Jvm.MethodName)) ∈ lw_all := lw_g (lw_at lw_m9 144 rfl) rfl
theorem q2161 : (Jvm.Cond.privateMethod ({ cls := "PumpCrossingModel", name := "where", desc := "(I)I" } : Jvm.MethodName)) ∈ lw_tbl := lw_at lw_m9 145 rfl
theorem q2162 : (Jvm.Cond.instanceMethod ({ cls := "PumpCrossingModel", name := "where", desc := "(I)I" } : Jvm.MethodName)) ∈ lw_all := lw_g (lw_at lw_m9 146 rfl) rfl
theorem q2163 : (Jvm.Cond.code ({ cls := "PumpCrossingModel", name := "where", desc := "(I)I" } : Jvm.MethodName) prog_29_method_45_code (7 : Nat) (Option.some Jvm.ClassFile.FieldType.int)) ∈ lw_all := lw_g (lw_at lw_m9 147 rfl) rfl
theorem q2165 : (Jvm.Cond.instanceMethod ({ cls := "PumpCrossingModel", name := "price", desc := "(I)I" } : Jvm.MethodName)) ∈ lw_all := lw_g (lw_at lw_m9 149 rfl) rfl
theorem q2166 : (Jvm.Cond.selects "PumpCrossingModel" ({ cls := "PumpCrossingModel", name := "price", desc := "(I)I" } : Jvm.MethodName) ({ cls := "PumpCrossingModel", name := "price", desc := "(I)I" } : Jvm.MethodName)) ∈ lw_all := lw_g (lw_at lw_m9 150 rfl) rfl
theorem q2167 : (Jvm.Cond.code ({ cls := "PumpCrossingModel", name := "price", desc := "(I)I" } : Jvm.MethodName) prog_29_method_49_code (2 : Nat) (Option.some Jvm.ClassFile.FieldType.int)) ∈ lw_all := lw_g (lw_at lw_m9 151 rfl) rfl
theorem q2169 : (Jvm.Cond.instanceMethod ({ cls := "PumpCrossingModel", name := "board", desc := "(II)I" } : Jvm.MethodName)) ∈ lw_all := lw_g (lw_at lw_m9 153 rfl) rfl
theorem q2170 : (Jvm.Cond.selects "PumpCrossingModel" ({ cls := "PumpCrossingModel", name := "board", desc := "(II)I" } : Jvm.MethodName) ({ cls := "PumpCrossingModel", name := "board", desc := "(II)I" } : Jvm.MethodName)) ∈ lw_all := lw_g (lw_at lw_m9 154 rfl) rfl
theorem q2171 : (Jvm.Cond.code ({ cls := "PumpCrossingModel", name := "board", desc := "(II)I" } : Jvm.MethodName) prog_29_method_52_code (3 : Nat) (Option.some Jvm.ClassFile.FieldType.int)) ∈ lw_all := lw_g (lw_at lw_m9 155 rfl) rfl
theorem q2172 : (Jvm.Cond.methodLink "PumpCrossingModel" (308 : Nat) ({ cls := "PumpCrossingModel", name := "isBoard", desc := "(I)Z" } : Jvm.MethodName)) ∈ lw_all := lw_g (lw_at lw_m9 156 rfl) rfl
theorem q2173 : (Jvm.Cond.privateMethod ({ cls := "PumpCrossingModel", name := "isBoard", desc := "(I)Z" } : Jvm.MethodName)) ∈ lw_tbl := lw_at lw_m9 157 rfl
theorem q2174 : (Jvm.Cond.instanceMethod ({ cls := "PumpCrossingModel", name := "isBoard", desc := "(I)Z" } : Jvm.MethodName)) ∈ lw_all := lw_g (lw_at lw_m9 158 rfl) rfl
theorem q2175 : (Jvm.Cond.code ({ cls := "PumpCrossingModel", name := "isBoard", desc := "(I)Z" } : Jvm.MethodName) prog_29_method_50_code (2 : Nat) (Option.some Jvm.ClassFile.FieldType.boolean)) ∈ lw_all := lw_g (lw_at lw_m9 159 rfl) rfl
theorem q2176 : (Jvm.Cond.methodLink "PumpCrossingModel" (311 : Nat) ({ cls := "PumpCrossingModel", name := "boardOf", desc := "(II)I" } : Jvm.MethodName)) ∈ lw_all := lw_g (lw_at lw_m9 160 rfl) rfl
theorem q2177 : (Jvm.Cond.privateMethod ({ cls := "PumpCrossingModel", name := "boardOf", desc := "(II)I" } : Jvm.MethodName)) ∈ lw_tbl := lw_at lw_m9 161 rfl
theorem q2178 : (Jvm.Cond.instanceMethod ({ cls := "PumpCrossingModel", name := "boardOf", desc := "(II)I" } : Jvm.MethodName)) ∈ lw_all := lw_g (lw_at lw_m9 162 rfl) rfl
theorem q2179 : (Jvm.Cond.code ({ cls := "PumpCrossingModel", name := "boardOf", desc := "(II)I" } : Jvm.MethodName) prog_29_method_51_code (3 : Nat) (Option.some Jvm.ClassFile.FieldType.int)) ∈ lw_all := lw_g (lw_at lw_m9 163 rfl) rfl
theorem q2181 : (Jvm.Cond.instanceMethod ({ cls := "PumpCrossingModel", name := "would", desc := "(I)I" } : Jvm.MethodName)) ∈ lw_all := lw_g (lw_at lw_m9 165 rfl) rfl
theorem q2182 : (Jvm.Cond.selects "PumpCrossingModel" ({ cls := "PumpCrossingModel", name := "would", desc := "(I)I" } : Jvm.MethodName) ({ cls := "PumpCrossingModel", name := "would", desc := "(I)I" } : Jvm.MethodName)) ∈ lw_all := lw_g (lw_at lw_m9 166 rfl) rfl
theorem q2183 : (Jvm.Cond.code ({ cls := "PumpCrossingModel", name := "would", desc := "(I)I" } : Jvm.MethodName) prog_29_method_53_code (2 : Nat) (Option.some Jvm.ClassFile.FieldType.int)) ∈ lw_all := lw_g (lw_at lw_m9 167 rfl) rfl
theorem q2185 : (Jvm.Cond.instanceMethod ({ cls := "PumpCrossingModel", name := "of", desc := "(II)J" } : Jvm.MethodName)) ∈ lw_all := lw_g (lw_at lw_m9 169 rfl) rfl
theorem q2186 : (Jvm.Cond.selects "PumpCrossingModel" ({ cls := "PumpCrossingModel", name := "of", desc := "(II)J" } : Jvm.MethodName) ({ cls := "PumpCrossingModel", name := "of", desc := "(II)J" } : Jvm.MethodName)) ∈ lw_all := lw_g (lw_at lw_m9 170 rfl) rfl
theorem q2187 : (Jvm.Cond.code ({ cls := "PumpCrossingModel", name := "of", desc := "(II)J" } : Jvm.MethodName) prog_29_method_54_code (3 : Nat) (Option.some Jvm.ClassFile.FieldType.long)) ∈ lw_all := lw_g (lw_at lw_m9 171 rfl) rfl
theorem q2188 : (Jvm.Cond.constantLong "PumpCrossingModel" (314 : Nat) (2 : Int64)) ∈ lw_all := lw_g (lw_at lw_m9 172 rfl) rfl
theorem q2190 : (Jvm.Cond.instanceMethod ({ cls := "PumpCrossingModel", name := "fills", desc := "(I)I" } : Jvm.MethodName)) ∈ lw_all := lw_g (lw_at lw_m9 174 rfl) rfl
theorem q2191 : (Jvm.Cond.selects "PumpCrossingModel" ({ cls := "PumpCrossingModel", name := "fills", desc := "(I)I" } : Jvm.MethodName) ({ cls := "PumpCrossingModel", name := "fills", desc := "(I)I" } : Jvm.MethodName)) ∈ lw_all := lw_g (lw_at lw_m9 175 rfl) rfl
theorem q2192 : (Jvm.Cond.code ({ cls := "PumpCrossingModel", name := "fills", desc := "(I)I" } : Jvm.MethodName) prog_29_method_55_code (2 : Nat) (Option.some Jvm.ClassFile.FieldType.int)) ∈ lw_all := lw_g (lw_at lw_m9 176 rfl) rfl
theorem q2194 : (Jvm.Cond.instanceMethod ({ cls := "PumpCrossingModel", name := "round", desc := "()I" } : Jvm.MethodName)) ∈ lw_all := lw_g (lw_at lw_m9 178 rfl) rfl
theorem q2195 : (Jvm.Cond.selects "PumpCrossingModel" ({ cls := "PumpCrossingModel", name := "round", desc := "()I" } : Jvm.MethodName) ({ cls := "PumpCrossingModel", name := "round", desc := "()I" } : Jvm.MethodName)) ∈ lw_all := lw_g (lw_at lw_m9 179 rfl) rfl
theorem q2196 : (Jvm.Cond.code ({ cls := "PumpCrossingModel", name := "round", desc := "()I" } : Jvm.MethodName) prog_29_method_57_code (5 : Nat) (Option.some Jvm.ClassFile.FieldType.int)) ∈ lw_all := lw_g (lw_at lw_m9 180 rfl) rfl
theorem q2197 : (Jvm.Cond.methodLink "PumpCrossingModel" (316 : Nat) ({ cls := "PumpCrossingModel", name := "isAlike", desc := "(II)Z" } : Jvm.MethodName)) ∈ lw_all := lw_g (lw_at lw_m9 181 rfl) rfl
theorem q2198 : (Jvm.Cond.privateMethod ({ cls := "PumpCrossingModel", name := "isAlike", desc := "(II)Z" } : Jvm.MethodName)) ∈ lw_tbl := lw_at lw_m9 182 rfl
theorem q2199 : (Jvm.Cond.instanceMethod ({ cls := "PumpCrossingModel", name := "isAlike", desc := "(II)Z" } : Jvm.MethodName)) ∈ lw_all := lw_g (lw_at lw_m9 183 rfl) rfl
theorem q2200 : (Jvm.Cond.code ({ cls := "PumpCrossingModel", name := "isAlike", desc := "(II)Z" } : Jvm.MethodName) prog_29_method_56_code (4 : Nat) (Option.some Jvm.ClassFile.FieldType.boolean)) ∈ lw_all := lw_g (lw_at lw_m9 184 rfl) rfl
theorem q2202 : (Jvm.Cond.instanceMethod ({ cls := "PumpCrossingModel", name := "leads", desc := "(IZ)I" } : Jvm.MethodName)) ∈ lw_all := lw_g (lw_at lw_m9 186 rfl) rfl
theorem q2203 : (Jvm.Cond.selects "PumpCrossingModel" ({ cls := "PumpCrossingModel", name := "leads", desc := "(IZ)I" } : Jvm.MethodName) ({ cls := "PumpCrossingModel", name := "leads", desc := "(IZ)I" } : Jvm.MethodName)) ∈ lw_all := lw_g (lw_at lw_m9 187 rfl) rfl
theorem q2204 : (Jvm.Cond.code ({ cls := "PumpCrossingModel", name := "leads", desc := "(IZ)I" } : Jvm.MethodName) prog_29_method_61_code (5 : Nat) (Option.some Jvm.ClassFile.FieldType.int)) ∈ lw_all := lw_g (lw_at lw_m9 188 rfl) rfl
theorem q2205 : (Jvm.Cond.methodLink "PumpCrossingModel" (322 : Nat) ({ cls := "PumpCrossingModel", name := "isLead", desc := "(II)Z" } : Jvm.MethodName)) ∈ lw_all := lw_g (lw_at lw_m9 189 rfl) rfl
theorem q2206 : (Jvm.Cond.privateMethod ({ cls := "PumpCrossingModel", name := "isLead", desc := "(II)Z" } : Jvm.MethodName)) ∈ lw_tbl := lw_at lw_m9 190 rfl
theorem q2207 : (Jvm.Cond.instanceMethod ({ cls := "PumpCrossingModel", name := "isLead", desc := "(II)Z" } : Jvm.MethodName)) ∈ lw_all := lw_g (lw_at lw_m9 191 rfl) rfl
theorem q2208 : (Jvm.Cond.code ({ cls := "PumpCrossingModel", name := "isLead", desc := "(II)Z" } : Jvm.MethodName) prog_29_method_59_code (5 : Nat) (Option.some Jvm.ClassFile.FieldType.boolean)) ∈ lw_all := lw_g (lw_at lw_m9 192 rfl) rfl
theorem q2209 : (Jvm.Cond.methodLink "PumpCrossingModel" (320 : Nat) ({ cls := "PumpCrossingModel", name := "rose", desc := "(II)Z" } : Jvm.MethodName)) ∈ lw_all := lw_g (lw_at lw_m9 193 rfl) rfl
theorem q2210 : (Jvm.Cond.privateMethod ({ cls := "PumpCrossingModel", name := "rose", desc := "(II)Z" } : Jvm.MethodName)) ∈ lw_tbl := lw_at lw_m9 194 rfl
theorem q2211 : (Jvm.Cond.instanceMethod ({ cls := "PumpCrossingModel", name := "rose", desc := "(II)Z" } : Jvm.MethodName)) ∈ lw_all := lw_g (lw_at lw_m9 195 rfl) rfl
theorem q2212 : (Jvm.Cond.code ({ cls := "PumpCrossingModel", name := "rose", desc := "(II)Z" } : Jvm.MethodName) prog_29_method_58_code (3 : Nat) (Option.some Jvm.ClassFile.FieldType.boolean)) ∈ lw_all := lw_g (lw_at lw_m9 196 rfl) rfl
theorem q2213 : (Jvm.Cond.methodLink "PumpCrossingModel" (325 : Nat) ({ cls := "PumpCrossingModel", name := "isFollowed", desc := "(II)Z" } : Jvm.MethodName)) ∈ lw_all := lw_g (lw_at lw_m9 197 rfl) rfl
theorem q2214 : (Jvm.Cond.privateMethod ({ cls := "PumpCrossingModel", name := "isFollowed", desc := "(II)Z" } : Jvm.MethodName)) ∈ lw_tbl := lw_at lw_m9 198 rfl
theorem q2215 : (Jvm.Cond.instanceMethod ({ cls := "PumpCrossingModel", name := "isFollowed", desc := "(II)Z" } : Jvm.MethodName)) ∈ lw_all := lw_g (lw_at lw_m9 199 rfl) rfl
theorem q2216 : (Jvm.Cond.code ({ cls := "PumpCrossingModel", name := "isFollowed", desc := "(II)Z" } : Jvm.MethodName) prog_29_method_60_code (6 : Nat) (Option.some Jvm.ClassFile.FieldType.boolean)) ∈ lw_all := lw_g (lw_at lw_m9 200 rfl) rfl
theorem q2218 : (Jvm.Cond.instanceMethod ({ cls := "PumpCrossingModel", name := "upper", desc := "()J" } : Jvm.MethodName)) ∈ lw_all := lw_g (lw_at lw_m9 202 rfl) rfl
theorem q2219 : (Jvm.Cond.selects "PumpCrossingModel" ({ cls := "PumpCrossingModel", name := "upper", desc := "()J" } : Jvm.MethodName) ({ cls := "PumpCrossingModel", name := "upper", desc := "()J" } : Jvm.MethodName)) ∈ lw_all := lw_g (lw_at lw_m9 203 rfl) rfl
theorem q2220 : (Jvm.Cond.code ({ cls := "PumpCrossingModel", name := "upper", desc := "()J" } : Jvm.MethodName) prog_29_method_62_code (1 : Nat) (Option.some Jvm.ClassFile.FieldType.long)) ∈ lw_all := lw_g (lw_at lw_m9 204 rfl) rfl
theorem q2222 : (Jvm.Cond.instanceMethod ({ cls := "PumpCrossingModel", name := "lower", desc := "()J" } : Jvm.MethodName)) ∈ lw_all := lw_g (lw_at lw_m9 206 rfl) rfl
theorem q2223 : (Jvm.Cond.selects "PumpCrossingModel" ({ cls := "PumpCrossingModel", name := "lower", desc := "()J" } : Jvm.MethodName) ({ cls := "PumpCrossingModel", name := "lower", desc := "()J" } : Jvm.MethodName)) ∈ lw_all := lw_g (lw_at lw_m9 207 rfl) rfl
theorem q2224 : (Jvm.Cond.code ({ cls := "PumpCrossingModel", name := "lower", desc := "()J" } : Jvm.MethodName) prog_29_method_63_code (1 : Nat) (Option.some Jvm.ClassFile.FieldType.long)) ∈ lw_all := lw_g (lw_at lw_m9 208 rfl) rfl
theorem q2226 : (Jvm.Cond.instanceMethod ({ cls := "PumpCrossingModel", name := "passed", desc := "(IIZ)Z" } : Jvm.MethodName)) ∈ lw_all := lw_g (lw_at lw_m9 210 rfl) rfl
theorem q2227 : (Jvm.Cond.selects "PumpCrossingModel" ({ cls := "PumpCrossingModel", name := "passed", desc := "(IIZ)Z" } : Jvm.MethodName) ({ cls := "PumpCrossingModel", name := "passed", desc := "(IIZ)Z" } : Jvm.MethodName)) ∈ lw_all := lw_g (lw_at lw_m9 211 rfl) rfl
theorem q2228 : (Jvm.Cond.code ({ cls := "PumpCrossingModel", name := "passed", desc := "(IIZ)Z" } : Jvm.MethodName) prog_29_method_65_code (11 : Nat) (Option.some Jvm.ClassFile.FieldType.boolean)) ∈ lw_all := lw_g (lw_at lw_m9 212 rfl) rfl
theorem q2229 : (Jvm.Cond.constantLong "PumpCrossingModel" (335 : Nat) (24 : Int64)) ∈ lw_all := lw_g (lw_at lw_m9 213 rfl) rfl
theorem q2230 : (Jvm.Cond.methodLink "PumpCrossingModel" (337 : Nat) ({ cls := "java/lang/Math", name := "abs", desc := "(I)I" } : Jvm.MethodName)) ∈ lw_all := lw_g (lw_at lw_m9 214 rfl) rfl
theorem q2231 : (Jvm.Cond.methodLink "PumpCrossingModel" (340 : Nat) ({ cls := "PumpCrossingModel", name := "fraction", desc := "(JJ)V" } : Jvm.MethodName)) ∈ lw_all := lw_g (lw_at lw_m9 215 rfl) rfl
theorem q2232 : (Jvm.Cond.privateMethod ({ cls := "PumpCrossingModel", name := "fraction", desc := "(JJ)V" } : Jvm.MethodName)) ∈ lw_tbl := lw_at lw_m9 216 rfl
theorem q2233 : (Jvm.Cond.instanceMethod ({ cls := "PumpCrossingModel", name := "fraction", desc := "(JJ)V" } : Jvm.MethodName)) ∈ lw_all := lw_g (lw_at lw_m9 217 rfl) rfl
theorem q2234 : (Jvm.Cond.code ({ cls := "PumpCrossingModel", name := "fraction", desc := "(JJ)V" } : Jvm.MethodName) prog_29_method_64_code (11 : Nat) (Option.none : Option Jvm.ClassFile.FieldType)) ∈ lw_all := lw_g (lw_at lw_m9 218 rfl) rfl
theorem q2236 : (Jvm.Cond.instanceMethod ({ cls := "PumpCrossingModel", name := "level", desc := "(I)I" } : Jvm.MethodName)) ∈ lw_all := lw_g (lw_at lw_m9 220 rfl) rfl
theorem q2237 : (Jvm.Cond.selects "PumpCrossingModel" ({ cls := "PumpCrossingModel", name := "level", desc := "(I)I" } : Jvm.MethodName) ({ cls := "PumpCrossingModel", name := "level", desc := "(I)I" } : Jvm.MethodName)) ∈ lw_all := lw_g (lw_at lw_m9 221 rfl) rfl
theorem q2238 : (Jvm.Cond.code ({ cls := "PumpCrossingModel", name := "level", desc := "(I)I" } : Jvm.MethodName) prog_29_method_71_code (3 : Nat) (Option.some Jvm.ClassFile.FieldType.int)) ∈ lw_all := lw_g (lw_at lw_m9 222 rfl) rfl
theorem q2240 : (Jvm.Cond.instanceMethod ({ cls := "PumpCrossingModel", name := "gain", desc := "(IIIIZ)I" } : Jvm.MethodName)) ∈ lw_all := lw_g (lw_at lw_m9 224 rfl) rfl
theorem q2241 : (Jvm.Cond.selects "PumpCrossingModel" ({ cls := "PumpCrossingModel", name := "gain", desc := "(IIIIZ)I" } : Jvm.MethodName) ({ cls := "PumpCrossingModel", name := "gain", desc := "(IIIIZ)I" } : Jvm.MethodName)) ∈ lw_all := lw_g (lw_at lw_m9 225 rfl) rfl
theorem q2242 : (Jvm.Cond.code ({ cls := "PumpCrossingModel", name := "gain", desc := "(IIIIZ)I" } : Jvm.MethodName) prog_29_method_72_code (6 : Nat) (Option.some Jvm.ClassFile.FieldType.int)) ∈ lw_all := lw_g (lw_at lw_m9 226 rfl) rfl
theorem q2243 : (Jvm.Cond.methodLink "PumpCrossingModel" (347 : Nat) ({ cls := "PumpCrossingModel", name := "pairFault", desc := "(II)I" } : Jvm.MethodName)) ∈ lw_all := lw_g (lw_at lw_m9 227 rfl) rfl
theorem q2244 : (Jvm.Cond.privateMethod ({ cls := "PumpCrossingModel", name := "pairFault", desc := "(II)I" } : Jvm.MethodName)) ∈ lw_tbl := lw_at lw_m9 228 rfl
theorem q2245 : (Jvm.Cond.instanceMethod ({ cls := "PumpCrossingModel", name := "pairFault", desc := "(II)I" } : Jvm.MethodName)) ∈ lw_all := lw_g (lw_at lw_m9 229 rfl) rfl
theorem q2246 : (Jvm.Cond.code ({ cls := "PumpCrossingModel", name := "pairFault", desc := "(II)I" } : Jvm.MethodName) prog_29_method_70_code (3 : Nat) (Option.some Jvm.ClassFile.FieldType.int)) ∈ lw_all := lw_g (lw_at lw_m9 230 rfl) rfl
theorem q2247 : (Jvm.Cond.methodLink "PumpCrossingModel" (350 : Nat) ({ cls := "PumpCrossingModel", name := "isLevel", desc := "(I)Z" } : Jvm.MethodName)) ∈ lw_all := lw_g (lw_at lw_m9 231 rfl) rfl
theorem q2248 : (Jvm.Cond.privateMethod ({ cls := "PumpCrossingModel", name := "isLevel", desc := "(I)Z" } : Jvm.MethodName)) ∈ lw_tbl := lw_at lw_m9 232 rfl
theorem q2249 : (Jvm.Cond.instanceMethod ({ cls := "PumpCrossingModel", name := "isLevel", desc := "(I)Z" } : Jvm.MethodName)) ∈ lw_all := lw_g (lw_at lw_m9 233 rfl) rfl
theorem q2250 : (Jvm.Cond.code ({ cls := "PumpCrossingModel", name := "isLevel", desc := "(I)Z" } : Jvm.MethodName) prog_29_method_69_code (2 : Nat) (Option.some Jvm.ClassFile.FieldType.boolean)) ∈ lw_all := lw_g (lw_at lw_m9 234 rfl) rfl
theorem q2251 : (Jvm.Cond.methodLink "PumpCrossingModel" (353 : Nat) ({ cls := "PumpCrossingModel", name := "layGains", desc := "(II)V" } : Jvm.MethodName)) ∈ lw_all := lw_g (lw_at lw_m9 235 rfl) rfl
theorem q2252 : (Jvm.Cond.privateMethod ({ cls := "PumpCrossingModel", name := "layGains", desc := "(II)V" } : Jvm.MethodName)) ∈ lw_tbl := lw_at lw_m9 236 rfl
theorem q2253 : (Jvm.Cond.instanceMethod ({ cls := "PumpCrossingModel", name := "layGains", desc := "(II)V" } : Jvm.MethodName)) ∈ lw_all := lw_g (lw_at lw_m9 237 rfl) rfl
theorem q2254 : (Jvm.Cond.code ({ cls := "PumpCrossingModel", name := "layGains", desc := "(II)V" } : Jvm.MethodName) prog_29_method_67_code (5 : Nat) (Option.none : Option Jvm.ClassFile.FieldType)) ∈ lw_all := lw_g (lw_at lw_m9 238 rfl) rfl
theorem q2255 : (Jvm.Cond.methodLink "PumpCrossingModel" (344 : Nat) ({ cls := "PumpCrossingModel", name := "profit", desc := "(I)I" } : Jvm.MethodName)) ∈ lw_all := lw_g (lw_at lw_m9 239 rfl) rfl
theorem q2256 : (Jvm.Cond.privateMethod ({ cls := "PumpCrossingModel", name := "profit", desc := "(I)I" } : Jvm.MethodName)) ∈ lw_tbl := lw_at lw_m10 0 rfl
theorem q2257 : (Jvm.Cond.instanceMethod ({ cls := "PumpCrossingModel", name := "profit", desc := "(I)I" } : Jvm.MethodName)) ∈ lw_all := lw_g (lw_at lw_m10 1 rfl) rfl
theorem q2258 : (Jvm.Cond.code ({ cls := "PumpCrossingModel", name := "profit", desc := "(I)I" } : Jvm.MethodName) prog_29_method_66_code (4 : Nat) (Option.some Jvm.ClassFile.FieldType.int)) ∈ lw_all := lw_g (lw_at lw_m10 2 rfl) rfl
theorem q2259 : (Jvm.Cond.methodLink "PumpCrossingModel" (356 : Nat) ({ cls := "PumpCrossingModel", name := "gainOf", desc := "(IIZ)I" } : Jvm.MethodName)) ∈ lw_all := lw_g (lw_at lw_m10 3 rfl) rfl
theorem q2260 : (Jvm.Cond.privateMethod ({ cls := "PumpCrossingModel", name := "gainOf", desc := "(IIZ)I" } : Jvm.MethodName)) ∈ lw_tbl := lw_at lw_m10 4 rfl
theorem q2261 : (Jvm.Cond.instanceMethod ({ cls := "PumpCrossingModel", name := "gainOf", desc := "(IIZ)I" } : Jvm.MethodName)) ∈ lw_all := lw_g (lw_at lw_m10 5 rfl) rfl
theorem q2262 : (Jvm.Cond.code ({ cls := "PumpCrossingModel", name := "gainOf", desc := "(IIZ)I" } : Jvm.MethodName) prog_29_method_68_code (4 : Nat) (Option.some Jvm.ClassFile.FieldType.int)) ∈ lw_all := lw_g (lw_at lw_m10 6 rfl) rfl
theorem q2264 : (Jvm.Cond.instanceMethod ({ cls := "PumpCrossingModel", name := "reply", desc := "(III)I" } : Jvm.MethodName)) ∈ lw_all := lw_g (lw_at lw_m10 8 rfl) rfl
theorem q2265 : (Jvm.Cond.selects "PumpCrossingModel" ({ cls := "PumpCrossingModel", name := "reply", desc := "(III)I" } : Jvm.MethodName) ({ cls := "PumpCrossingModel", name := "reply", desc := "(III)I" } : Jvm.MethodName)) ∈ lw_all := lw_g (lw_at lw_m10 9 rfl) rfl
theorem q2266 : (Jvm.Cond.code ({ cls := "PumpCrossingModel", name := "reply", desc := "(III)I" } : Jvm.MethodName) prog_29_method_73_code (6 : Nat) (Option.some Jvm.ClassFile.FieldType.int)) ∈ lw_all := lw_g (lw_at lw_m10 10 rfl) rfl
theorem q2268 : (Jvm.Cond.instanceMethod ({ cls := "PumpCrossingModel", name := "even", desc := "(III)I" } : Jvm.MethodName)) ∈ lw_all := lw_g (lw_at lw_m10 12 rfl) rfl
theorem q2269 : (Jvm.Cond.selects "PumpCrossingModel" ({ cls := "PumpCrossingModel", name := "even", desc := "(III)I" } : Jvm.MethodName) ({ cls := "PumpCrossingModel", name := "even", desc := "(III)I" } : Jvm.MethodName)) ∈ lw_all := lw_g (lw_at lw_m10 13 rfl) rfl
theorem q2270 : (Jvm.Cond.code ({ cls := "PumpCrossingModel", name := "even", desc := "(III)I" } : Jvm.MethodName) prog_29_method_76_code (4 : Nat) (Option.some Jvm.ClassFile.FieldType.int)) ∈ lw_all := lw_g (lw_at lw_m10 14 rfl) rfl
theorem q2271 : (Jvm.Cond.methodLink "PumpCrossingModel" (362 : Nat) ({ cls := "PumpCrossingModel", name := "evenAt", desc := "(I)I" } : Jvm.MethodName)) ∈ lw_all := lw_g (lw_at lw_m10 15 rfl) rfl
theorem q2272 : (Jvm.Cond.privateMethod ({ cls := "PumpCrossingModel", name := "evenAt", desc := "(I)I" } : Jvm.MethodName)) ∈ lw_tbl := lw_at lw_m10 16 rfl
theorem q2273 : (Jvm.Cond.instanceMethod ({ cls := "PumpCrossingModel", name := "evenAt", desc := "(I)I" } : Jvm.MethodName)) ∈ lw_all := lw_g (lw_at lw_m10 17 rfl) rfl
theorem q2274 : (Jvm.Cond.code ({ cls := "PumpCrossingModel", name := "evenAt", desc := "(I)I" } : Jvm.MethodName) prog_29_method_75_code (5 : Nat) (Option.some Jvm.ClassFile.FieldType.int)) ∈ lw_all := lw_g (lw_at lw_m10 18 rfl) rfl
theorem q2275 : (Jvm.Cond.methodLink "PumpCrossingModel" (359 : Nat) ({ cls := "PumpCrossingModel", name := "isEven", desc := "(II)Z" } : Jvm.MethodName)) ∈ lw_all := lw_g (lw_at lw_m10 19 rfl) rfl
theorem q2276 : (Jvm.Cond.privateMethod ({ cls := "PumpCrossingModel", name := "isEven", desc := "(II)Z" } : Jvm.MethodName)) ∈ lw_tbl := lw_at lw_m10 20 rfl
theorem q2277 : (Jvm.Cond.instanceMethod ({ cls := "PumpCrossingModel", name := "isEven", desc := "(II)Z" } : Jvm.MethodName)) ∈ lw_all := lw_g (lw_at lw_m10 21 rfl) rfl
theorem q2278 : (Jvm.Cond.code ({ cls := "PumpCrossingModel", name := "isEven", desc := "(II)Z" } : Jvm.MethodName) prog_29_method_74_code (4 : Nat) (Option.some Jvm.ClassFile.FieldType.boolean)) ∈ lw_all := lw_g (lw_at lw_m10 22 rfl) rfl
theorem q2280 : (Jvm.Cond.instanceMethod ({ cls := "PumpCrossingModel", name := "joint", desc := "(II)I" } : Jvm.MethodName)) ∈ lw_all := lw_g (lw_at lw_m10 24 rfl) rfl
theorem q2281 : (Jvm.Cond.selects "PumpCrossingModel" ({ cls := "PumpCrossingModel", name := "joint", desc := "(II)I" } : Jvm.MethodName) ({ cls := "PumpCrossingModel", name := "joint", desc := "(II)I" } : Jvm.MethodName)) ∈ lw_all := lw_g (lw_at lw_m10 25 rfl) rfl
theorem q2282 : (Jvm.Cond.code ({ cls := "PumpCrossingModel", name := "joint", desc := "(II)I" } : Jvm.MethodName) prog_29_method_78_code (6 : Nat) (Option.some Jvm.ClassFile.FieldType.int)) ∈ lw_all := lw_g (lw_at lw_m10 26 rfl) rfl
theorem q2283 : (Jvm.Cond.methodLink "PumpCrossingModel" (365 : Nat) ({ cls := "PumpCrossingModel", name := "together", desc := "(II)I" } : Jvm.MethodName)) ∈ lw_all := lw_g (lw_at lw_m10 27 rfl) rfl
theorem q2284 : (Jvm.Cond.privateMethod ({ cls := "PumpCrossingModel", name := "together", desc := "(II)I" } : Jvm.MethodName)) ∈ lw_tbl := lw_at lw_m10 28 rfl
theorem q2285 : (Jvm.Cond.instanceMethod ({ cls := "PumpCrossingModel", name := "together", desc := "(II)I" } : Jvm.MethodName)) ∈ lw_all := lw_g (lw_at lw_m10 29 rfl) rfl
theorem q2286 : (Jvm.Cond.code ({ cls := "PumpCrossingModel", name := "together", desc := "(II)I" } : Jvm.MethodName) prog_29_method_77_code (3 : Nat) (Option.some Jvm.ClassFile.FieldType.int)) ∈ lw_all := lw_g (lw_at lw_m10 30 rfl) rfl
theorem q2288 : (Jvm.Cond.instanceMethod ({ cls := "PumpCrossingModel", name := "turn", desc := "(IIIII)I" } : Jvm.MethodName)) ∈ lw_all := lw_g (lw_at lw_m10 32 rfl) rfl
theorem q2289 : (Jvm.Cond.selects "PumpCrossingModel" ({ cls := "PumpCrossingModel", name := "turn", desc := "(IIIII)I" } : Jvm.MethodName) ({ cls := "PumpCrossingModel", name := "turn", desc := "(IIIII)I" } : Jvm.MethodName)) ∈ lw_all := lw_g (lw_at lw_m10 33 rfl) rfl
theorem q2290 : (Jvm.Cond.code ({ cls := "PumpCrossingModel", name := "turn", desc := "(IIIII)I" } : Jvm.MethodName) prog_29_method_81_code (8 : Nat) (Option.some Jvm.ClassFile.FieldType.int)) ∈ lw_all := lw_g (lw_at lw_m10 34 rfl) rfl
theorem q2291 : (Jvm.Cond.methodLink "PumpCrossingModel" (370 : Nat) ({ cls := "PumpCrossingModel", name := "turnFault", desc := "(IIII)I" } : Jvm.MethodName)) ∈ lw_all := lw_g (lw_at lw_m10 35 rfl) rfl
theorem q2292 : (Jvm.Cond.privateMethod ({ cls := "PumpCrossingModel", name := "turnFault", desc := "(IIII)I" } : Jvm.MethodName)) ∈ lw_tbl := lw_at lw_m10 36 rfl
theorem q2293 : (Jvm.Cond.instanceMethod ({ cls := "PumpCrossingModel", name := "turnFault", desc := "(IIII)I" } : Jvm.MethodName)) ∈ lw_all := lw_g (lw_at lw_m10 37 rfl) rfl
theorem q2294 : (Jvm.Cond.code ({ cls := "PumpCrossingModel", name := "turnFault", desc := "(IIII)I" } : Jvm.MethodName) prog_29_method_79_code (5 : Nat) (Option.some Jvm.ClassFile.FieldType.int)) ∈ lw_all := lw_g (lw_at lw_m10 38 rfl) rfl
theorem q2295 : (Jvm.Cond.constantLong "PumpCrossingModel" (368 : Nat) (40 : Int64)) ∈ lw_all := lw_g (lw_at lw_m10 39 rfl) rfl
theorem q2296 : (Jvm.Cond.methodLink "PumpCrossingModel" (374 : Nat) ({ cls := "PumpCrossingModel", name := "layTurns", desc := "(III)V" } : Jvm.MethodName)) ∈ lw_all := lw_g (lw_at lw_m10 40 rfl) rfl
theorem q2297 : (Jvm.Cond.privateMethod ({ cls := "PumpCrossingModel", name := "layTurns", desc := "(III)V" } : Jvm.MethodName)) ∈ lw_tbl := lw_at lw_m10 41 rfl
theorem q2298 : (Jvm.Cond.instanceMethod ({ cls := "PumpCrossingModel", name := "layTurns", desc := "(III)V" } : Jvm.MethodName)) ∈ lw_all := lw_g (lw_at lw_m10 42 rfl) rfl
theorem q2299 : (Jvm.Cond.code ({ cls := "PumpCrossingModel", name := "layTurns", desc := "(III)V" } : Jvm.MethodName) prog_29_method_80_code (13 : Nat) (Option.none : Option Jvm.ClassFile.FieldType)) ∈ lw_all := lw_g (lw_at lw_m10 43 rfl) rfl
theorem q2301 : (Jvm.Cond.instanceMethod ({ cls := "PumpCrossingModel", name := "gains", desc := "(IIIIZ)J" } : Jvm.MethodName)) ∈ lw_all := lw_g (lw_at lw_m10 45 rfl) rfl
theorem q2302 : (Jvm.Cond.selects "PumpCrossingModel" ({ cls := "PumpCrossingModel", name := "gains", desc := "(IIIIZ)J" } : Jvm.MethodName) ({ cls := "PumpCrossingModel", name := "gains", desc := "(IIIIZ)J" } : Jvm.MethodName)) ∈ lw_all := lw_g (lw_at lw_m10 46 rfl) rfl
theorem q2303 : (Jvm.Cond.code ({ cls := "PumpCrossingModel", name := "gains", desc := "(IIIIZ)J" } : Jvm.MethodName) prog_29_method_82_code (6 : Nat) (Option.some Jvm.ClassFile.FieldType.long)) ∈ lw_all := lw_g (lw_at lw_m10 47 rfl) rfl
theorem q2305 : (Jvm.Cond.instanceMethod ({ cls := "PumpCrossingModel", name := "learn", desc := "(IIII)I" } : Jvm.MethodName)) ∈ lw_all := lw_g (lw_at lw_m10 49 rfl) rfl
theorem q2306 : (Jvm.Cond.selects "PumpCrossingModel" ({ cls := "PumpCrossingModel", name := "learn", desc := "(IIII)I" } : Jvm.MethodName) ({ cls := "PumpCrossingModel", name := "learn", desc := "(IIII)I" } : Jvm.MethodName)) ∈ lw_all := lw_g (lw_at lw_m10 50 rfl) rfl
theorem q2307 : (Jvm.Cond.code ({ cls := "PumpCrossingModel", name := "learn", desc := "(IIII)I" } : Jvm.MethodName) prog_29_method_89_code (5 : Nat) (Option.some Jvm.ClassFile.FieldType.int)) ∈ lw_all := lw_g (lw_at lw_m10 51 rfl) rfl
theorem q2308 : (Jvm.Cond.methodLink "PumpCrossingModel" (401 : Nat) ({ cls := "PumpCrossingModel", name := "learnFault", desc := "(IIII)I" } : Jvm.MethodName)) ∈ lw_all := lw_g (lw_at lw_m10 52 rfl) rfl
theorem q2309 : (Jvm.Cond.privateMethod ({ cls := "PumpCrossingModel", name := "learnFault", desc := "(IIII)I" } : Jvm.MethodName)) ∈ lw_tbl := lw_at lw_m10 53 rfl
theorem q2310 : (Jvm.Cond.instanceMethod ({ cls := "PumpCrossingModel", name := "learnFault", desc := "(IIII)I" } : Jvm.MethodName)) ∈ lw_all := lw_g (lw_at lw_m10 54 rfl) rfl
theorem q2311 : (Jvm.Cond.code ({ cls := "PumpCrossingModel", name := "learnFault", desc := "(IIII)I" } : Jvm.MethodName) prog_29_method_88_code (5 : Nat) (Option.some Jvm.ClassFile.FieldType.int)) ∈ lw_all := lw_g (lw_at lw_m10 55 rfl) rfl
theorem q2312 : (Jvm.Cond.methodLink "PumpCrossingModel" (404 : Nat) ({ cls := "PumpCrossingModel", name := "learns", desc := "(II)V" } : Jvm.MethodName)) ∈ lw_all := lw_g (lw_at lw_m10 56 rfl) rfl
theorem q2313 : (Jvm.Cond.privateMethod ({ cls := "PumpCrossingModel", name := "learns", desc := "(II)V" } : Jvm.MethodName)) ∈ lw_tbl := lw_at lw_m10 57 rfl
theorem q2314 : (Jvm.Cond.instanceMethod ({ cls := "PumpCrossingModel", name := "learns", desc := "(II)V" } : Jvm.MethodName)) ∈ lw_all := lw_g (lw_at lw_m10 58 rfl) rfl
theorem q2315 : (Jvm.Cond.code ({ cls := "PumpCrossingModel", name := "learns", desc := "(II)V" } : Jvm.MethodName) prog_29_method_87_code (7 : Nat) (Option.none : Option Jvm.ClassFile.FieldType)) ∈ lw_all := lw_g (lw_at lw_m10 59 rfl) rfl
theorem q2316 : (Jvm.Cond.methodLink "PumpCrossingModel" (394 : Nat) ({ cls := "PumpCrossingModel", name := "takes", desc := "(III)I" } : Jvm.MethodName)) ∈ lw_all := lw_g (lw_at lw_m10 60 rfl) rfl
theorem q2317 : (Jvm.Cond.privateMethod ({ cls := "PumpCrossingModel", name := "takes", desc := "(III)I" } : Jvm.MethodName)) ∈ lw_tbl := lw_at lw_m10 61 rfl
theorem q2318 : (Jvm.Cond.instanceMethod ({ cls := "PumpCrossingModel", name := "takes", desc := "(III)I" } : Jvm.MethodName)) ∈ lw_all := lw_g (lw_at lw_m10 62 rfl) rfl
theorem q2319 : (Jvm.Cond.code ({ cls := "PumpCrossingModel", name := "takes", desc := "(III)I" } : Jvm.MethodName) prog_29_method_85_code (4 : Nat) (Option.some Jvm.ClassFile.FieldType.int)) ∈ lw_all := lw_g (lw_at lw_m10 63 rfl) rfl
theorem q2320 : (Jvm.Cond.methodLink "PumpCrossingModel" (382 : Nat) ({ cls := "PumpCrossingModel", name := "draw", desc := "()I" } : Jvm.MethodName)) ∈ lw_all := lw_g (lw_at lw_m10 64 rfl) rfl
theorem q2321 : (Jvm.Cond.privateMethod ({ cls := "PumpCrossingModel", name := "draw", desc := "()I" } : Jvm.MethodName)) ∈ lw_tbl := lw_at lw_m10 65 rfl
theorem q2322 : (Jvm.Cond.instanceMethod ({ cls := "PumpCrossingModel", name := "draw", desc := "()I" } : Jvm.MethodName)) ∈ lw_all := lw_g (lw_at lw_m10 66 rfl) rfl
theorem q2323 : (Jvm.Cond.code ({ cls := "PumpCrossingModel", name := "draw", desc := "()I" } : Jvm.MethodName) prog_29_method_83_code (1 : Nat) (Option.some Jvm.ClassFile.FieldType.int)) ∈ lw_all := lw_g (lw_at lw_m10 67 rfl) rfl
theorem q2324 : (Jvm.Cond.constant "PumpCrossingModel" (378 : Nat) (1103515245 : Int32)) ∈ lw_all := lw_g (lw_at lw_m10 68 rfl) rfl
theorem q2325 : (Jvm.Cond.methodLink "PumpCrossingModel" (385 : Nat) ({ cls := "PumpCrossingModel", name := "greatest", desc := "(II)I" } : Jvm.MethodName)) ∈ lw_all := lw_g (lw_at lw_m10 69 rfl) rfl
theorem q2326 : (Jvm.Cond.privateMethod ({ cls := "PumpCrossingModel", name := "greatest", desc := "(II)I" } : Jvm.MethodName)) ∈ lw_tbl := lw_at lw_m10 70 rfl
theorem q2327 : (Jvm.Cond.instanceMethod ({ cls := "PumpCrossingModel", name := "greatest", desc := "(II)I" } : Jvm.MethodName)) ∈ lw_all := lw_g (lw_at lw_m10 71 rfl) rfl
theorem q2328 : (Jvm.Cond.code ({ cls := "PumpCrossingModel", name := "greatest", desc := "(II)I" } : Jvm.MethodName) prog_29_method_84_code (5 : Nat) (Option.some Jvm.ClassFile.FieldType.int)) ∈ lw_all := lw_g (lw_at lw_m10 72 rfl) rfl
theorem q2329 : (Jvm.Cond.methodLink "PumpCrossingModel" (397 : Nat) ({ cls := "PumpCrossingModel", name := "teaches", desc := "(IIIII)V" } : Jvm.MethodName)) ∈ lw_all := lw_g (lw_at lw_m10 73 rfl) rfl
theorem q2330 : (Jvm.Cond.privateMethod ({ cls := "PumpCrossingModel", name := "teaches", desc := "(IIIII)V" } : Jvm.MethodName)) ∈ lw_tbl := lw_at lw_m10 74 rfl
theorem q2331 : (Jvm.Cond.instanceMethod ({ cls := "PumpCrossingModel", name := "teaches", desc := "(IIIII)V" } : Jvm.MethodName)) ∈ lw_all := lw_g (lw_at lw_m10 75 rfl) rfl
theorem q2332 : (Jvm.Cond.code ({ cls := "PumpCrossingModel", name := "teaches", desc := "(IIIII)V" } : Jvm.MethodName) prog_29_method_86_code (8 : Nat) (Option.none : Option Jvm.ClassFile.FieldType)) ∈ lw_all := lw_g (lw_at lw_m10 76 rfl) rfl
theorem q2334 : (Jvm.Cond.instanceMethod ({ cls := "PumpCrossingModel", name := "above", desc := "(IIII)I" } : Jvm.MethodName)) ∈ lw_all := lw_g (lw_at lw_m10 78 rfl) rfl
theorem q2335 : (Jvm.Cond.selects "PumpCrossingModel" ({ cls := "PumpCrossingModel", name := "above", desc := "(IIII)I" } : Jvm.MethodName) ({ cls := "PumpCrossingModel", name := "above", desc := "(IIII)I" } : Jvm.MethodName)) ∈ lw_all := lw_g (lw_at lw_m10 79 rfl) rfl
theorem q2336 : (Jvm.Cond.code ({ cls := "PumpCrossingModel", name := "above", desc := "(IIII)I" } : Jvm.MethodName) prog_29_method_90_code (9 : Nat) (Option.some Jvm.ClassFile.FieldType.int)) ∈ lw_all := lw_g (lw_at lw_m10 80 rfl) rfl
theorem q2338 : (Jvm.Cond.instanceMethod ({ cls := "PumpCrossingModel", name := "punish", desc := "(IIIII)I" } : Jvm.MethodName)) ∈ lw_all := lw_g (lw_at lw_m10 82 rfl) rfl
theorem q2339 : (Jvm.Cond.selects "PumpCrossingModel" ({ cls := "PumpCrossingModel", name := "punish", desc := "(IIIII)I" } : Jvm.MethodName) ({ cls := "PumpCrossingModel", name := "punish", desc := "(IIIII)I" } : Jvm.MethodName)) ∈ lw_all := lw_g (lw_at lw_m10 83 rfl) rfl
theorem q2340 : (Jvm.Cond.code ({ cls := "PumpCrossingModel", name := "punish", desc := "(IIIII)I" } : Jvm.MethodName) prog_29_method_91_code (6 : Nat) (Option.some Jvm.ClassFile.FieldType.int)) ∈ lw_all := lw_g (lw_at lw_m10 84 rfl) rfl
theorem q2342 : (Jvm.Cond.instanceMethod ({ cls := "PumpCrossingModel", name := "story", desc := "(II)Z" } : Jvm.MethodName)) ∈ lw_all := lw_g (lw_at lw_m10 86 rfl) rfl
theorem q2343 : (Jvm.Cond.selects "PumpCrossingModel" ({ cls := "PumpCrossingModel", name := "story", desc := "(II)Z" } : Jvm.MethodName) ({ cls := "PumpCrossingModel", name := "story", desc := "(II)Z" } : Jvm.MethodName)) ∈ lw_all := lw_g (lw_at lw_m10 87 rfl) rfl
theorem q2344 : (Jvm.Cond.code ({ cls := "PumpCrossingModel", name := "story", desc := "(II)Z" } : Jvm.MethodName) prog_29_method_92_code (4 : Nat) (Option.some Jvm.ClassFile.FieldType.boolean)) ∈ lw_all := lw_g (lw_at lw_m10 88 rfl) rfl
theorem q2345 : (Jvm.Cond.methodLink "PumpCrossingModel" (407 : Nat) ({ cls := "PumpCrossingModel", name := "isTray", desc := "(I)Z" } : Jvm.MethodName)) ∈ lw_all := lw_g (lw_at lw_m10 89 rfl) rfl
theorem q2346 : (Jvm.Cond.static ({ cls := "PumpCrossingModel", name := "isTray", desc := "(I)Z" } : Jvm.MethodName)) ∈ lw_all := lw_g (lw_at lw_m10 90 rfl) rfl
theorem q2347 : (Jvm.Cond.code ({ cls := "PumpCrossingModel", name := "isTray", desc := "(I)Z" } : Jvm.MethodName) prog_29_method_100_code (1 : Nat) (Option.some Jvm.ClassFile.FieldType.boolean)) ∈ lw_all := lw_g (lw_at lw_m10 91 rfl) rfl
theorem q2348 : (Jvm.Cond.constantLong "PumpCrossingModel" (410 : Nat) (9 : Int64)) ∈ lw_all := lw_g (lw_at lw_m10 92 rfl) rfl
theorem q2350 : (Jvm.Cond.instanceMethod ({ cls := "PumpCrossingModel", name := "rise", desc := "(III)I" } : Jvm.MethodName)) ∈ lw_all := lw_g (lw_at lw_m10 94 rfl) rfl
theorem q2351 : (Jvm.Cond.selects "PumpCrossingModel" ({ cls := "PumpCrossingModel", name := "rise", desc := "(III)I" } : Jvm.MethodName) ({ cls := "PumpCrossingModel", name := "rise", desc := "(III)I" } : Jvm.MethodName)) ∈ lw_all := lw_g (lw_at lw_m10 95 rfl) rfl
theorem q2352 : (Jvm.Cond.code ({ cls := "PumpCrossingModel", name := "rise", desc := "(III)I" } : Jvm.MethodName) prog_29_method_94_code (6 : Nat) (Option.some Jvm.ClassFile.FieldType.int)) ∈ lw_all := lw_g (lw_at lw_m10 96 rfl) rfl
theorem q2353 : (Jvm.Cond.methodLink "PumpCrossingModel" (412 : Nat) ({ cls := "PumpCrossingModel", name := "isLag", desc := "(I)Z" } : Jvm.MethodName)) ∈ lw_all := lw_g (lw_at lw_m10 97 rfl) rfl
theorem q2354 : (Jvm.Cond.static ({ cls := "PumpCrossingModel", name := "isLag", desc := "(I)Z" } : Jvm.MethodName)) ∈ lw_all := lw_g (lw_at lw_m10 98 rfl) rfl
theorem q2355 : (Jvm.Cond.code ({ cls := "PumpCrossingModel", name := "isLag", desc := "(I)Z" } : Jvm.MethodName) prog_29_method_93_code (1 : Nat) (Option.some Jvm.ClassFile.FieldType.boolean)) ∈ lw_all := lw_g (lw_at lw_m10 99 rfl) rfl
theorem q2357 : (Jvm.Cond.instanceMethod ({ cls := "PumpCrossingModel", name := "odds", desc := "()V" } : Jvm.MethodName)) ∈ lw_all := lw_g (lw_at lw_m10 101 rfl) rfl
theorem q2358 : (Jvm.Cond.selects "PumpCrossingModel" ({ cls := "PumpCrossingModel", name := "odds", desc := "()V" } : Jvm.MethodName) ({ cls := "PumpCrossingModel", name := "odds", desc := "()V" } : Jvm.MethodName)) ∈ lw_all := lw_g (lw_at lw_m10 102 rfl) rfl
theorem q2359 : (Jvm.Cond.code ({ cls := "PumpCrossingModel", name := "odds", desc := "()V" } : Jvm.MethodName) prog_29_method_95_code (6 : Nat) (Option.none : Option Jvm.ClassFile.FieldType)) ∈ lw_all := lw_g (lw_at lw_m10 103 rfl) rfl
theorem q2361 : (Jvm.Cond.instanceMethod ({ cls := "PumpCrossingModel", name := "fill", desc := "(IIII)I" } : Jvm.MethodName)) ∈ lw_all := lw_g (lw_at lw_m10 105 rfl) rfl
theorem q2362 : (Jvm.Cond.selects "PumpCrossingModel" ({ cls := "PumpCrossingModel", name := "fill", desc := "(IIII)I" } : Jvm.MethodName) ({ cls := "PumpCrossingModel", name := "fill", desc := "(IIII)I" } : Jvm.MethodName)) ∈ lw_all := lw_g (lw_at lw_m10 106 rfl) rfl
theorem q2363 : (Jvm.Cond.code ({ cls := "PumpCrossingModel", name := "fill", desc := "(IIII)I" } : Jvm.MethodName) prog_29_method_97_code (8 : Nat) (Option.some Jvm.ClassFile.FieldType.int)) ∈ lw_all := lw_g (lw_at lw_m10 107 rfl) rfl
theorem q2364 : (Jvm.Cond.constantLong "PumpCrossingModel" (415 : Nat) (12 : Int64)) ∈ lw_all := lw_g (lw_at lw_m10 108 rfl) rfl
theorem q2365 : (Jvm.Cond.methodLink "PumpCrossingModel" (417 : Nat) ({ cls := "PumpCrossingModel", name := "layPaid", desc := "(II)V" } : Jvm.MethodName)) ∈ lw_all := lw_g (lw_at lw_m10 109 rfl) rfl
theorem q2366 : (Jvm.Cond.privateMethod ({ cls := "PumpCrossingModel", name := "layPaid", desc := "(II)V" } : Jvm.MethodName)) ∈ lw_tbl := lw_at lw_m10 110 rfl
theorem q2367 : (Jvm.Cond.instanceMethod ({ cls := "PumpCrossingModel", name := "layPaid", desc := "(II)V" } : Jvm.MethodName)) ∈ lw_all := lw_g (lw_at lw_m10 111 rfl) rfl
theorem q2368 : (Jvm.Cond.code ({ cls := "PumpCrossingModel", name := "layPaid", desc := "(II)V" } : Jvm.MethodName) prog_29_method_96_code (9 : Nat) (Option.none : Option Jvm.ClassFile.FieldType)) ∈ lw_all := lw_g (lw_at lw_m10 112 rfl) rfl
theorem q2370 : (Jvm.Cond.instanceMethod ({ cls := "PumpCrossingModel", name := "told", desc := "(IIII)I" } : Jvm.MethodName)) ∈ lw_all := lw_g (lw_at lw_m10 114 rfl) rfl
theorem q2371 : (Jvm.Cond.selects "PumpCrossingModel" ({ cls := "PumpCrossingModel", name := "told", desc := "(IIII)I" } : Jvm.MethodName) ({ cls := "PumpCrossingModel", name := "told", desc := "(IIII)I" } : Jvm.MethodName)) ∈ lw_all := lw_g (lw_at lw_m10 115 rfl) rfl
theorem q2372 : (Jvm.Cond.code ({ cls := "PumpCrossingModel", name := "told", desc := "(IIII)I" } : Jvm.MethodName) prog_29_method_98_code (6 : Nat) (Option.some Jvm.ClassFile.FieldType.int)) ∈ lw_all := lw_g (lw_at lw_m10 116 rfl) rfl
theorem q2374 : (Jvm.Cond.instanceMethod ({ cls := "PumpCrossingModel", name := "fit", desc := "(I)I" } : Jvm.MethodName)) ∈ lw_all := lw_g (lw_at lw_m10 118 rfl) rfl
theorem q2375 : (Jvm.Cond.selects "PumpCrossingModel" ({ cls := "PumpCrossingModel", name := "fit", desc := "(I)I" } : Jvm.MethodName) ({ cls := "PumpCrossingModel", name := "fit", desc := "(I)I" } : Jvm.MethodName)) ∈ lw_all := lw_g (lw_at lw_m10 119 rfl) rfl
theorem q2376 : (Jvm.Cond.code ({ cls := "PumpCrossingModel", name := "fit", desc := "(I)I" } : Jvm.MethodName) prog_29_method_99_code (3 : Nat) (Option.some Jvm.ClassFile.FieldType.int)) ∈ lw_all := lw_g (lw_at lw_m10 120 rfl) rfl
theorem q2378 : (Jvm.Cond.instanceMethod ({ cls := "PumpCrossingModel", name := "tray", desc := "(III)V" } : Jvm.MethodName)) ∈ lw_all := lw_g (lw_at lw_m10 122 rfl) rfl
theorem q2379 : (Jvm.Cond.selects "PumpCrossingModel" ({ cls := "PumpCrossingModel", name := "tray", desc := "(III)V" } : Jvm.MethodName) ({ cls := "PumpCrossingModel", name := "tray", desc := "(III)V" } : Jvm.MethodName)) ∈ lw_all := lw_g (lw_at lw_m10 123 rfl) rfl
theorem q2380 : (Jvm.Cond.code ({ cls := "PumpCrossingModel", name := "tray", desc := "(III)V" } : Jvm.MethodName) prog_29_method_101_code (5 : Nat) (Option.none : Option Jvm.ClassFile.FieldType)) ∈ lw_all := lw_g (lw_at lw_m10 124 rfl) rfl
theorem q2381 : (Jvm.Cond.constantLong "PumpCrossingModel" (420 : Nat) (28 : Int64)) ∈ lw_all := lw_g (lw_at lw_m10 125 rfl) rfl
theorem q2383 : (Jvm.Cond.instanceMethod ({ cls := "PumpCrossingModel", name := "write", desc := "(IIJ)J" } : Jvm.MethodName)) ∈ lw_all := lw_g (lw_at lw_m10 127 rfl) rfl
theorem q2384 : (Jvm.Cond.selects "PumpCrossingModel" ({ cls := "PumpCrossingModel", name := "write", desc := "(IIJ)J" } : Jvm.MethodName) ({ cls := "PumpCrossingModel", name := "write", desc := "(IIJ)J" } : Jvm.MethodName)) ∈ lw_all := lw_g (lw_at lw_m10 128 rfl) rfl
theorem q2385 : (Jvm.Cond.code ({ cls := "PumpCrossingModel", name := "write", desc := "(IIJ)J" } : Jvm.MethodName) prog_29_method_102_code (6 : Nat) (Option.some Jvm.ClassFile.FieldType.long)) ∈ lw_all := lw_g (lw_at lw_m10 129 rfl) rfl
theorem q2387 : (Jvm.Cond.instanceMethod ({ cls := "PumpCrossingModel", name := "image", desc := "(I)V" } : Jvm.MethodName)) ∈ lw_all := lw_g (lw_at lw_m10 131 rfl) rfl
theorem q2388 : (Jvm.Cond.selects "PumpCrossingModel" ({ cls := "PumpCrossingModel", name := "image", desc := "(I)V" } : Jvm.MethodName) ({ cls := "PumpCrossingModel", name := "image", desc := "(I)V" } : Jvm.MethodName)) ∈ lw_all := lw_g (lw_at lw_m10 132 rfl) rfl
theorem q2389 : (Jvm.Cond.code ({ cls := "PumpCrossingModel", name := "image", desc := "(I)V" } : Jvm.MethodName) prog_29_method_103_code (3 : Nat) (Option.none : Option Jvm.ClassFile.FieldType)) ∈ lw_all := lw_g (lw_at lw_m10 133 rfl) rfl
theorem q2391 : (Jvm.Cond.instanceMethod ({ cls := "PumpCrossingModel", name := "restore", desc := "(I)V" } : Jvm.MethodName)) ∈ lw_all := lw_g (lw_at lw_m10 135 rfl) rfl
theorem q2392 : (Jvm.Cond.selects "PumpCrossingModel" ({ cls := "PumpCrossingModel", name := "restore", desc := "(I)V" } : Jvm.MethodName) ({ cls := "PumpCrossingModel", name := "restore", desc := "(I)V" } : Jvm.MethodName)) ∈ lw_all := lw_g (lw_at lw_m10 136 rfl) rfl
theorem q2393 : (Jvm.Cond.code ({ cls := "PumpCrossingModel", name := "restore", desc := "(I)V" } : Jvm.MethodName) prog_29_method_104_code (3 : Nat) (Option.none : Option Jvm.ClassFile.FieldType)) ∈ lw_all := lw_g (lw_at lw_m10 137 rfl) rfl
theorem q2395 : (Jvm.Cond.instanceMethod ({ cls := "PumpCrossingModel", name := "count", desc := "(I)J" } : Jvm.MethodName)) ∈ lw_all := lw_g (lw_at lw_m10 139 rfl) rfl
theorem q2396 : (Jvm.Cond.selects "PumpCrossingModel" ({ cls := "PumpCrossingModel", name := "count", desc := "(I)J" } : Jvm.MethodName) ({ cls := "PumpCrossingModel", name := "count", desc := "(I)J" } : Jvm.MethodName)) ∈ lw_all := lw_g (lw_at lw_m10 140 rfl) rfl
theorem q2397 : (Jvm.Cond.code ({ cls := "PumpCrossingModel", name := "count", desc := "(I)J" } : Jvm.MethodName) prog_29_method_105_code (2 : Nat) (Option.some Jvm.ClassFile.FieldType.long)) ∈ lw_all := lw_g (lw_at lw_m10 141 rfl) rfl
theorem q2398 : (Jvm.Cond.constantLong "PumpCrossingModel" (422 : Nat) (-1 : Int64)) ∈ lw_all := lw_g (lw_at lw_m10 142 rfl) rfl
theorem q2418 : (Jvm.Cond.castable "PumpCrossingModel" "java/lang/Object") ∈ lw_tbl := lw_at lw_m10 162 rfl
theorem in_X8 : ∀ w ∈ wsX80, w ∈ lw_all := lw_in wsX80 [1868, 1870, 1872, 1874, 1876, 1878, 1880, 1882, 1884, 1886, 1888, 1890, 1892, 1894, 1896, 1898, 1900, 1902, 1904, 1906, 1908, 1910, 1912, 1914, 1916, 1918, 1920, 1922, 1924, 1926, 1928, 1930, 1932, 1934, 1936, 1938, 1940, 1942, 1944, 1946] (by decide +kernel) (by decide +kernel)
