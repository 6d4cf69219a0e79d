/-! PumpCrossing$Crossing -/
set_option maxRecDepth 100000
def RX2 : String := "PumpCrossing$Crossing"
def TX2 : u_T := fun k => match k with
  | 0 => ("PumpCrossing$Crossing", "stations", "Ljava/util/ArrayList;", true)
  | 1 => ("PumpCrossing$Crossing", "drivers", "Ljava/util/ArrayList;", true)
  | 2 => ("PumpCrossing$Crossing", "changes", "Ljava/util/ArrayList;", true)
  | 3 => ("PumpCrossing$Crossing", "rises", "Ljava/util/ArrayList;", true)
  | 4 => ("PumpCrossing$Crossing", "told", "Ljava/util/ArrayList;", true)
  | 5 => ("PumpCrossing$Crossing", "law", "LPumpCrossing$Law;", false)
  | 6 => ("PumpCrossing$Crossing", "boards", "[[B", true)
  | 7 => ("PumpCrossing$Crossing", "levels", "[I", true)
  | 8 => ("PumpCrossing$Crossing", "weights", "[[I", true)
  | 9 => ("PumpCrossing$Crossing", "hours", "I", false)
  | 10 => ("PumpCrossing$Crossing", "levelMany", "I", false)
  | _ => ("PumpCrossing$Crossing", "paid", "J", false)
def tyX2 : Nat → FieldType := fun k => match k with
  | 0 => .object "java/util/ArrayList"
  | 1 => .object "java/util/ArrayList"
  | 2 => .object "java/util/ArrayList"
  | 3 => .object "java/util/ArrayList"
  | 4 => .object "java/util/ArrayList"
  | 5 => .object "PumpCrossing$Law"
  | 6 => .array (.array .byte)
  | 7 => .array .int
  | 8 => .array (.array .int)
  | 9 => .int
  | 10 => .int
  | _ => .long
abbrev wsX20 : List Cond := u_ws RX2 TX2 12
theorem nmX2 : ∀ a, a < 12 → ∀ b, b < 12 → a ≠ b → (TX2 a).2.1 ≠ (TX2 b).2.1 := by decide +kernel
theorem tyX2_ok : ∀ k, k < 12 → parseFieldDescriptor (TX2 k).2.2.1 = some (tyX2 k) := by decide +kernel
abbrev cX2_init : ByteArray := prog_5_method_1_code
def yX2_init : MethodName := ⟨RX2, "<init>", "()V"⟩
def dkwX2_init_6 : List UInt8 := [177]
abbrev dktX2_init_6 : List UInt8 := dkwX2_init_6 ++ []
def dkwX2_init_5 : List UInt8 := [162, 0, 18, 42, 180, 0, 48, 27, 50, 28, 4, 79, 132, 2, 1, 167, 255, 238, 132, 1, 1, 167, 255, 225]
abbrev dktX2_init_5 : List UInt8 := dkwX2_init_5 ++ dktX2_init_6
def dkwX2_init_4 : List UInt8 := [5, 16, 21, 197, 0, 46, 2, 181, 0, 48, 3, 60, 27, 5, 162, 0, 32, 3, 61, 28, 16, 21]
abbrev dktX2_init_4 : List UInt8 := dkwX2_init_4 ++ dktX2_init_5
def dkwX2_init_3 : List UInt8 := [181, 0, 33, 42, 17, 1, 0, 7, 197, 0, 37, 2, 181, 0, 39, 42, 16, 8, 188, 10, 181, 0, 42, 42]
abbrev dktX2_init_3 : List UInt8 := dkwX2_init_3 ++ dktX2_init_4
def dkwX2_init_2 : List UInt8 := [181, 0, 24, 42, 187, 0, 9, 89, 183, 0, 11, 181, 0, 27, 42, 187, 0, 30, 89, 183, 0, 32]
abbrev dktX2_init_2 : List UInt8 := dkwX2_init_2 ++ dktX2_init_3
def dkwX2_init_1 : List UInt8 := [181, 0, 18, 42, 187, 0, 9, 89, 183, 0, 11, 181, 0, 21, 42, 187, 0, 9, 89, 183, 0, 11]
abbrev dktX2_init_1 : List UInt8 := dkwX2_init_1 ++ dktX2_init_2
def dkwX2_init_0 : List UInt8 := [42, 183, 0, 3, 42, 187, 0, 9, 89, 183, 0, 11, 181, 0, 12, 42, 187, 0, 9, 89, 183, 0, 11]
abbrev dktX2_init_0 : List UInt8 := dkwX2_init_0 ++ dktX2_init_1
theorem dksX2_init_0 : cX2_init.data.toList.drop 0 = dktX2_init_0 := by decide +kernel
theorem dksX2_init_1 : cX2_init.data.toList.drop 23 = dktX2_init_1 := dk_seg dksX2_init_0 23 rfl rfl
theorem dksX2_init_2 : cX2_init.data.toList.drop 45 = dktX2_init_2 := dk_seg dksX2_init_1 22 rfl rfl
theorem dksX2_init_3 : cX2_init.data.toList.drop 67 = dktX2_init_3 := dk_seg dksX2_init_2 22 rfl rfl
theorem dksX2_init_4 : cX2_init.data.toList.drop 91 = dktX2_init_4 := dk_seg dksX2_init_3 24 rfl rfl
theorem dksX2_init_5 : cX2_init.data.toList.drop 113 = dktX2_init_5 := dk_seg dksX2_init_4 22 rfl rfl
theorem dksX2_init_6 : cX2_init.data.toList.drop 137 = dktX2_init_6 := dk_seg dksX2_init_5 24 rfl rfl
theorem dX2_init_0 : decode cX2_init 0 = .ok (.aload_n 0, 1) := dk_42 (dk_at dksX2_init_0 0 rfl rfl)
theorem dX2_init_1 : decode cX2_init 1 = .ok (.invokespecial 3, 3) := dk_183 0 3 (dk_at dksX2_init_0 1 rfl rfl)
theorem dX2_init_4 : decode cX2_init 4 = .ok (.aload_n 0, 1) := dk_42 (dk_at dksX2_init_0 4 rfl rfl)
theorem dX2_init_5 : decode cX2_init 5 = .ok (.new 9, 3) := dk_187 0 9 (dk_at dksX2_init_0 5 rfl rfl)
theorem dX2_init_8 : decode cX2_init 8 = .ok (.dup, 1) := dk_89 (dk_at dksX2_init_0 8 rfl rfl)
theorem dX2_init_9 : decode cX2_init 9 = .ok (.invokespecial 11, 3) := dk_183 0 11 (dk_at dksX2_init_0 9 rfl rfl)
theorem dX2_init_12 : decode cX2_init 12 = .ok (.putfield 12, 3) := dk_181 0 12 (dk_at dksX2_init_0 12 rfl rfl)
theorem dX2_init_15 : decode cX2_init 15 = .ok (.aload_n 0, 1) := dk_42 (dk_at dksX2_init_0 15 rfl rfl)
theorem dX2_init_16 : decode cX2_init 16 = .ok (.new 9, 3) := dk_187 0 9 (dk_at dksX2_init_0 16 rfl rfl)
theorem dX2_init_19 : decode cX2_init 19 = .ok (.dup, 1) := dk_89 (dk_at dksX2_init_0 19 rfl rfl)
theorem dX2_init_20 : decode cX2_init 20 = .ok (.invokespecial 11, 3) := dk_183 0 11 (dk_at dksX2_init_0 20 rfl rfl)
theorem dX2_init_23 : decode cX2_init 23 = .ok (.putfield 18, 3) := dk_181 0 18 (dk_at dksX2_init_1 0 rfl rfl)
theorem dX2_init_26 : decode cX2_init 26 = .ok (.aload_n 0, 1) := dk_42 (dk_at dksX2_init_1 3 rfl rfl)
theorem dX2_init_27 : decode cX2_init 27 = .ok (.new 9, 3) := dk_187 0 9 (dk_at dksX2_init_1 4 rfl rfl)
theorem dX2_init_30 : decode cX2_init 30 = .ok (.dup, 1) := dk_89 (dk_at dksX2_init_1 7 rfl rfl)
theorem dX2_init_31 : decode cX2_init 31 = .ok (.invokespecial 11, 3) := dk_183 0 11 (dk_at dksX2_init_1 8 rfl rfl)
theorem dX2_init_34 : decode cX2_init 34 = .ok (.putfield 21, 3) := dk_181 0 21 (dk_at dksX2_init_1 11 rfl rfl)
theorem dX2_init_37 : decode cX2_init 37 = .ok (.aload_n 0, 1) := dk_42 (dk_at dksX2_init_1 14 rfl rfl)
theorem dX2_init_38 : decode cX2_init 38 = .ok (.new 9, 3) := dk_187 0 9 (dk_at dksX2_init_1 15 rfl rfl)
theorem dX2_init_41 : decode cX2_init 41 = .ok (.dup, 1) := dk_89 (dk_at dksX2_init_1 18 rfl rfl)
theorem dX2_init_42 : decode cX2_init 42 = .ok (.invokespecial 11, 3) := dk_183 0 11 (dk_at dksX2_init_1 19 rfl rfl)
theorem dX2_init_45 : decode cX2_init 45 = .ok (.putfield 24, 3) := dk_181 0 24 (dk_at dksX2_init_2 0 rfl rfl)
theorem dX2_init_48 : decode cX2_init 48 = .ok (.aload_n 0, 1) := dk_42 (dk_at dksX2_init_2 3 rfl rfl)
theorem dX2_init_49 : decode cX2_init 49 = .ok (.new 9, 3) := dk_187 0 9 (dk_at dksX2_init_2 4 rfl rfl)
theorem dX2_init_52 : decode cX2_init 52 = .ok (.dup, 1) := dk_89 (dk_at dksX2_init_2 7 rfl rfl)
theorem dX2_init_53 : decode cX2_init 53 = .ok (.invokespecial 11, 3) := dk_183 0 11 (dk_at dksX2_init_2 8 rfl rfl)
theorem dX2_init_56 : decode cX2_init 56 = .ok (.putfield 27, 3) := dk_181 0 27 (dk_at dksX2_init_2 11 rfl rfl)
theorem dX2_init_59 : decode cX2_init 59 = .ok (.aload_n 0, 1) := dk_42 (dk_at dksX2_init_2 14 rfl rfl)
theorem dX2_init_60 : decode cX2_init 60 = .ok (.new 30, 3) := dk_187 0 30 (dk_at dksX2_init_2 15 rfl rfl)
theorem dX2_init_63 : decode cX2_init 63 = .ok (.dup, 1) := dk_89 (dk_at dksX2_init_2 18 rfl rfl)
theorem dX2_init_64 : decode cX2_init 64 = .ok (.invokespecial 32, 3) := dk_183 0 32 (dk_at dksX2_init_2 19 rfl rfl)
theorem dX2_init_67 : decode cX2_init 67 = .ok (.putfield 33, 3) := dk_181 0 33 (dk_at dksX2_init_3 0 rfl rfl)
theorem dX2_init_70 : decode cX2_init 70 = .ok (.aload_n 0, 1) := dk_42 (dk_at dksX2_init_3 3 rfl rfl)
theorem dX2_init_71 : decode cX2_init 71 = .ok (.sipush 256, 3) := dk_17 1 0 (dk_at dksX2_init_3 4 rfl rfl)
theorem dX2_init_74 : decode cX2_init 74 = .ok (.iconst 4, 1) := dk_7 (dk_at dksX2_init_3 7 rfl rfl)
theorem dX2_init_75 : decode cX2_init 75 = .ok (.multianewarray 37 2, 4) := by decide +kernel
theorem dX2_init_79 : decode cX2_init 79 = .ok (.putfield 39, 3) := dk_181 0 39 (dk_at dksX2_init_3 12 rfl rfl)
theorem dX2_init_82 : decode cX2_init 82 = .ok (.aload_n 0, 1) := dk_42 (dk_at dksX2_init_3 15 rfl rfl)
theorem dX2_init_83 : decode cX2_init 83 = .ok (.bipush 8, 2) := dk_16 8 (dk_at dksX2_init_3 16 rfl rfl)
theorem dX2_init_85 : decode cX2_init 85 = .ok (.newarray .int, 2) := dk_188_10 (dk_at dksX2_init_3 18 rfl rfl)
theorem dX2_init_87 : decode cX2_init 87 = .ok (.putfield 42, 3) := dk_181 0 42 (dk_at dksX2_init_3 20 rfl rfl)
theorem dX2_init_90 : decode cX2_init 90 = .ok (.aload_n 0, 1) := dk_42 (dk_at dksX2_init_3 23 rfl rfl)
theorem dX2_init_91 : decode cX2_init 91 = .ok (.iconst 2, 1) := dk_5 (dk_at dksX2_init_4 0 rfl rfl)
theorem dX2_init_92 : decode cX2_init 92 = .ok (.bipush 21, 2) := dk_16 21 (dk_at dksX2_init_4 1 rfl rfl)
theorem dX2_init_94 : decode cX2_init 94 = .ok (.multianewarray 46 2, 4) := by decide +kernel
theorem dX2_init_98 : decode cX2_init 98 = .ok (.putfield 48, 3) := dk_181 0 48 (dk_at dksX2_init_4 7 rfl rfl)
theorem dX2_init_101 : decode cX2_init 101 = .ok (.iconst 0, 1) := dk_3 (dk_at dksX2_init_4 10 rfl rfl)
theorem dX2_init_102 : decode cX2_init 102 = .ok (.istore_n 1, 1) := dk_60 (dk_at dksX2_init_4 11 rfl rfl)
theorem dX2_init_103 : decode cX2_init 103 = .ok (.iload_n 1, 1) := dk_27 (dk_at dksX2_init_4 12 rfl rfl)
theorem dX2_init_104 : decode cX2_init 104 = .ok (.iconst 2, 1) := dk_5 (dk_at dksX2_init_4 13 rfl rfl)
theorem dX2_init_105 : decode cX2_init 105 = .ok (.if_icmp .ge 32, 3) := dk_162 0 32 (dk_at dksX2_init_4 14 rfl rfl)
theorem dX2_init_108 : decode cX2_init 108 = .ok (.iconst 0, 1) := dk_3 (dk_at dksX2_init_4 17 rfl rfl)
theorem dX2_init_109 : decode cX2_init 109 = .ok (.istore_n 2, 1) := dk_61 (dk_at dksX2_init_4 18 rfl rfl)
theorem dX2_init_110 : decode cX2_init 110 = .ok (.iload_n 2, 1) := dk_28 (dk_at dksX2_init_4 19 rfl rfl)
theorem dX2_init_111 : decode cX2_init 111 = .ok (.bipush 21, 2) := dk_16 21 (dk_at dksX2_init_4 20 rfl rfl)
theorem dX2_init_113 : decode cX2_init 113 = .ok (.if_icmp .ge 18, 3) := dk_162 0 18 (dk_at dksX2_init_5 0 rfl rfl)
theorem dX2_init_116 : decode cX2_init 116 = .ok (.aload_n 0, 1) := dk_42 (dk_at dksX2_init_5 3 rfl rfl)
theorem dX2_init_117 : decode cX2_init 117 = .ok (.getfield 48, 3) := dk_180 0 48 (dk_at dksX2_init_5 4 rfl rfl)
theorem dX2_init_120 : decode cX2_init 120 = .ok (.iload_n 1, 1) := dk_27 (dk_at dksX2_init_5 7 rfl rfl)
theorem dX2_init_121 : decode cX2_init 121 = .ok (.aaload, 1) := dk_50 (dk_at dksX2_init_5 8 rfl rfl)
theorem dX2_init_122 : decode cX2_init 122 = .ok (.iload_n 2, 1) := dk_28 (dk_at dksX2_init_5 9 rfl rfl)
theorem dX2_init_123 : decode cX2_init 123 = .ok (.iconst 1, 1) := dk_4 (dk_at dksX2_init_5 10 rfl rfl)
theorem dX2_init_124 : decode cX2_init 124 = .ok (.iastore, 1) := dk_79 (dk_at dksX2_init_5 11 rfl rfl)
theorem dX2_init_125 : decode cX2_init 125 = .ok (.iinc 2 1, 3) := dk_132 2 1 (dk_at dksX2_init_5 12 rfl rfl)
theorem dX2_init_128 : decode cX2_init 128 = .ok (.goto (-18), 3) := dk_167 255 238 (dk_at dksX2_init_5 15 rfl rfl)
theorem dX2_init_131 : decode cX2_init 131 = .ok (.iinc 1 1, 3) := dk_132 1 1 (dk_at dksX2_init_5 18 rfl rfl)
theorem dX2_init_134 : decode cX2_init 134 = .ok (.goto (-31), 3) := dk_167 255 225 (dk_at dksX2_init_5 21 rfl rfl)
theorem dX2_init_137 : decode cX2_init 137 = .ok (.return_, 1) := dk_177 (dk_at dksX2_init_6 0 rfl rfl)
abbrev cX2_isBoard : ByteArray := prog_5_method_5_code
def yX2_isBoard : MethodName := ⟨RX2, "isBoard", "(I)Z"⟩
def dkwX2_isBoard_1 : List UInt8 := [4, 167, 0, 4, 3, 172]
abbrev dktX2_isBoard_1 : List UInt8 := dkwX2_isBoard_1 ++ []
def dkwX2_isBoard_0 : List UInt8 := [27, 155, 0, 27, 27, 42, 180, 0, 78, 162, 0, 19, 27, 42, 180, 0, 78, 17, 1, 0, 100, 161, 0, 7]
abbrev dktX2_isBoard_0 : List UInt8 := dkwX2_isBoard_0 ++ dktX2_isBoard_1
theorem dksX2_isBoard_0 : cX2_isBoard.data.toList.drop 0 = dktX2_isBoard_0 := by decide +kernel
theorem dksX2_isBoard_1 : cX2_isBoard.data.toList.drop 24 = dktX2_isBoard_1 := dk_seg dksX2_isBoard_0 24 rfl rfl
theorem dX2_isBoard_0 : decode cX2_isBoard 0 = .ok (.iload_n 1, 1) := dk_27 (dk_at dksX2_isBoard_0 0 rfl rfl)
theorem dX2_isBoard_1 : decode cX2_isBoard 1 = .ok (.ifCond .lt 27, 3) := dk_155 0 27 (dk_at dksX2_isBoard_0 1 rfl rfl)
theorem dX2_isBoard_4 : decode cX2_isBoard 4 = .ok (.iload_n 1, 1) := dk_27 (dk_at dksX2_isBoard_0 4 rfl rfl)
theorem dX2_isBoard_5 : decode cX2_isBoard 5 = .ok (.aload_n 0, 1) := dk_42 (dk_at dksX2_isBoard_0 5 rfl rfl)
theorem dX2_isBoard_6 : decode cX2_isBoard 6 = .ok (.getfield 78, 3) := dk_180 0 78 (dk_at dksX2_isBoard_0 6 rfl rfl)
theorem dX2_isBoard_9 : decode cX2_isBoard 9 = .ok (.if_icmp .ge 19, 3) := dk_162 0 19 (dk_at dksX2_isBoard_0 9 rfl rfl)
theorem dX2_isBoard_12 : decode cX2_isBoard 12 = .ok (.iload_n 1, 1) := dk_27 (dk_at dksX2_isBoard_0 12 rfl rfl)
theorem dX2_isBoard_13 : decode cX2_isBoard 13 = .ok (.aload_n 0, 1) := dk_42 (dk_at dksX2_isBoard_0 13 rfl rfl)
theorem dX2_isBoard_14 : decode cX2_isBoard 14 = .ok (.getfield 78, 3) := dk_180 0 78 (dk_at dksX2_isBoard_0 14 rfl rfl)
theorem dX2_isBoard_17 : decode cX2_isBoard 17 = .ok (.sipush 256, 3) := dk_17 1 0 (dk_at dksX2_isBoard_0 17 rfl rfl)
theorem dX2_isBoard_20 : decode cX2_isBoard 20 = .ok (.isub, 1) := dk_100 (dk_at dksX2_isBoard_0 20 rfl rfl)
theorem dX2_isBoard_21 : decode cX2_isBoard 21 = .ok (.if_icmp .lt 7, 3) := dk_161 0 7 (dk_at dksX2_isBoard_0 21 rfl rfl)
theorem dX2_isBoard_24 : decode cX2_isBoard 24 = .ok (.iconst 1, 1) := dk_4 (dk_at dksX2_isBoard_1 0 rfl rfl)
theorem dX2_isBoard_25 : decode cX2_isBoard 25 = .ok (.goto 4, 3) := dk_167 0 4 (dk_at dksX2_isBoard_1 1 rfl rfl)
theorem dX2_isBoard_28 : decode cX2_isBoard 28 = .ok (.iconst 0, 1) := dk_3 (dk_at dksX2_isBoard_1 4 rfl rfl)
theorem dX2_isBoard_29 : decode cX2_isBoard 29 = .ok (.ireturn, 1) := dk_172 (dk_at dksX2_isBoard_1 5 rfl rfl)
abbrev cX2_many : ByteArray := prog_5_method_4_code
def yX2_many : MethodName := ⟨RX2, "many", "()I"⟩
def dkwX2_many_0 : List UInt8 := [42, 180, 0, 12, 182, 0, 51, 172]
abbrev dktX2_many_0 : List UInt8 := dkwX2_many_0 ++ []
theorem dksX2_many_0 : cX2_many.data.toList.drop 0 = dktX2_many_0 := by decide +kernel
theorem dX2_many_0 : decode cX2_many 0 = .ok (.aload_n 0, 1) := dk_42 (dk_at dksX2_many_0 0 rfl rfl)
theorem dX2_many_1 : decode cX2_many 1 = .ok (.getfield 12, 3) := dk_180 0 12 (dk_at dksX2_many_0 1 rfl rfl)
theorem dX2_many_4 : decode cX2_many 4 = .ok (.invokevirtual 51, 3) := dk_182 0 51 (dk_at dksX2_many_0 4 rfl rfl)
theorem dX2_many_7 : decode cX2_many 7 = .ok (.ireturn, 1) := dk_172 (dk_at dksX2_many_0 7 rfl rfl)
abbrev cX2_at : ByteArray := prog_5_method_6_code
def yX2_at : MethodName := ⟨RX2, "at", "(II)I"⟩
def dkwX2_at_0 : List UInt8 := [42, 180, 0, 39, 28, 17, 1, 0, 112, 50, 27, 51, 172]
abbrev dktX2_at_0 : List UInt8 := dkwX2_at_0 ++ []
theorem dksX2_at_0 : cX2_at.data.toList.drop 0 = dktX2_at_0 := by decide +kernel
theorem dX2_at_0 : decode cX2_at 0 = .ok (.aload_n 0, 1) := dk_42 (dk_at dksX2_at_0 0 rfl rfl)
theorem dX2_at_1 : decode cX2_at 1 = .ok (.getfield 39, 3) := dk_180 0 39 (dk_at dksX2_at_0 1 rfl rfl)
theorem dX2_at_4 : decode cX2_at 4 = .ok (.iload_n 2, 1) := dk_28 (dk_at dksX2_at_0 4 rfl rfl)
theorem dX2_at_5 : decode cX2_at 5 = .ok (.sipush 256, 3) := dk_17 1 0 (dk_at dksX2_at_0 5 rfl rfl)
theorem dX2_at_8 : decode cX2_at 8 = .ok (.irem, 1) := dk_112 (dk_at dksX2_at_0 8 rfl rfl)
theorem dX2_at_9 : decode cX2_at 9 = .ok (.aaload, 1) := dk_50 (dk_at dksX2_at_0 9 rfl rfl)
theorem dX2_at_10 : decode cX2_at 10 = .ok (.iload_n 1, 1) := dk_27 (dk_at dksX2_at_0 10 rfl rfl)
theorem dX2_at_11 : decode cX2_at 11 = .ok (.baload, 1) := dk_51 (dk_at dksX2_at_0 11 rfl rfl)
theorem dX2_at_12 : decode cX2_at 12 = .ok (.ireturn, 1) := dk_172 (dk_at dksX2_at_0 12 rfl rfl)
abbrev cX2_init_2 : ByteArray := prog_5_method_2_code
def yX2_init_2 : MethodName := ⟨RX2, "<init>", "(LPumpCrossing$Crossing;)V"⟩
def dkwX2_init_2_13 : List UInt8 := [177]
abbrev dktX2_init_2_13 : List UInt8 := dkwX2_init_2_13 ++ []
def dkwX2_init_2_12 : List UInt8 := [42, 43, 180, 0, 78, 181, 0, 78, 42, 43, 180, 0, 82, 181, 0, 82, 42, 43, 180, 0, 85, 181, 0, 85]
abbrev dktX2_init_2_12 : List UInt8 := dkwX2_init_2_12 ++ dktX2_init_2_13
def dkwX2_init_2_11 : List UInt8 := [180, 0, 48, 28, 50, 3, 42, 180, 0, 48, 28, 50, 3, 16, 21, 184, 0, 72, 132, 2, 1, 167, 255, 229]
abbrev dktX2_init_2_11 : List UInt8 := dkwX2_init_2_11 ++ dktX2_init_2_12
def dkwX2_init_2_10 : List UInt8 := [180, 0, 42, 3, 42, 180, 0, 42, 3, 16, 8, 184, 0, 72, 3, 61, 28, 5, 162, 0, 28, 43]
abbrev dktX2_init_2_10 : List UInt8 := dkwX2_init_2_10 ++ dktX2_init_2_11
def dkwX2_init_2_9 : List UInt8 := [180, 0, 39, 28, 50, 3, 42, 180, 0, 39, 28, 50, 3, 7, 184, 0, 72, 132, 2, 1, 167, 255, 228, 43]
abbrev dktX2_init_2_9 : List UInt8 := dkwX2_init_2_9 ++ dktX2_init_2_10
def dkwX2_init_2_8 : List UInt8 := [180, 0, 27, 184, 0, 68, 42, 43, 180, 0, 33, 181, 0, 33, 3, 61, 28, 17, 1, 0, 162, 0, 27, 43]
abbrev dktX2_init_2_8 : List UInt8 := dkwX2_init_2_8 ++ dktX2_init_2_9
def dkwX2_init_2_7 : List UInt8 := [180, 0, 21, 184, 0, 68, 43, 180, 0, 24, 42, 180, 0, 24, 184, 0, 68, 43, 180, 0, 27, 42]
abbrev dktX2_init_2_7 : List UInt8 := dkwX2_init_2_7 ++ dktX2_init_2_8
def dkwX2_init_2_6 : List UInt8 := [87, 132, 2, 1, 167, 255, 216, 43, 180, 0, 18, 42, 180, 0, 18, 184, 0, 68, 43, 180, 0, 21, 42]
abbrev dktX2_init_2_6 : List UInt8 := dkwX2_init_2_6 ++ dktX2_init_2_7
def dkwX2_init_2_5 : List UInt8 := [180, 0, 12, 187, 0, 55, 89, 43, 180, 0, 12, 28, 182, 0, 57, 192, 0, 55, 183, 0, 61, 182, 0, 64]
abbrev dktX2_init_2_5 : List UInt8 := dkwX2_init_2_5 ++ dktX2_init_2_6
def dkwX2_init_2_4 : List UInt8 := [5, 16, 21, 197, 0, 46, 2, 181, 0, 48, 3, 61, 28, 43, 180, 0, 12, 182, 0, 51, 162, 0, 35, 42]
abbrev dktX2_init_2_4 : List UInt8 := dkwX2_init_2_4 ++ dktX2_init_2_5
def dkwX2_init_2_3 : List UInt8 := [181, 0, 33, 42, 17, 1, 0, 7, 197, 0, 37, 2, 181, 0, 39, 42, 16, 8, 188, 10, 181, 0, 42, 42]
abbrev dktX2_init_2_3 : List UInt8 := dkwX2_init_2_3 ++ dktX2_init_2_4
def dkwX2_init_2_2 : List UInt8 := [181, 0, 24, 42, 187, 0, 9, 89, 183, 0, 11, 181, 0, 27, 42, 187, 0, 30, 89, 183, 0, 32]
abbrev dktX2_init_2_2 : List UInt8 := dkwX2_init_2_2 ++ dktX2_init_2_3
def dkwX2_init_2_1 : List UInt8 := [181, 0, 18, 42, 187, 0, 9, 89, 183, 0, 11, 181, 0, 21, 42, 187, 0, 9, 89, 183, 0, 11]
abbrev dktX2_init_2_1 : List UInt8 := dkwX2_init_2_1 ++ dktX2_init_2_2
def dkwX2_init_2_0 : List UInt8 := [42, 183, 0, 3, 42, 187, 0, 9, 89, 183, 0, 11, 181, 0, 12, 42, 187, 0, 9, 89, 183, 0, 11]
abbrev dktX2_init_2_0 : List UInt8 := dkwX2_init_2_0 ++ dktX2_init_2_1
theorem dksX2_init_2_0 : cX2_init_2.data.toList.drop 0 = dktX2_init_2_0 := by decide +kernel
theorem dksX2_init_2_1 : cX2_init_2.data.toList.drop 23 = dktX2_init_2_1 := dk_seg dksX2_init_2_0 23 rfl rfl
theorem dksX2_init_2_2 : cX2_init_2.data.toList.drop 45 = dktX2_init_2_2 := dk_seg dksX2_init_2_1 22 rfl rfl
theorem dksX2_init_2_3 : cX2_init_2.data.toList.drop 67 = dktX2_init_2_3 := dk_seg dksX2_init_2_2 22 rfl rfl
theorem dksX2_init_2_4 : cX2_init_2.data.toList.drop 91 = dktX2_init_2_4 := dk_seg dksX2_init_2_3 24 rfl rfl
theorem dksX2_init_2_5 : cX2_init_2.data.toList.drop 115 = dktX2_init_2_5 := dk_seg dksX2_init_2_4 24 rfl rfl
theorem dksX2_init_2_6 : cX2_init_2.data.toList.drop 139 = dktX2_init_2_6 := dk_seg dksX2_init_2_5 24 rfl rfl
theorem dksX2_init_2_7 : cX2_init_2.data.toList.drop 162 = dktX2_init_2_7 := dk_seg dksX2_init_2_6 23 rfl rfl
theorem dksX2_init_2_8 : cX2_init_2.data.toList.drop 184 = dktX2_init_2_8 := dk_seg dksX2_init_2_7 22 rfl rfl
theorem dksX2_init_2_9 : cX2_init_2.data.toList.drop 208 = dktX2_init_2_9 := dk_seg dksX2_init_2_8 24 rfl rfl
theorem dksX2_init_2_10 : cX2_init_2.data.toList.drop 232 = dktX2_init_2_10 := dk_seg dksX2_init_2_9 24 rfl rfl
theorem dksX2_init_2_11 : cX2_init_2.data.toList.drop 254 = dktX2_init_2_11 := dk_seg dksX2_init_2_10 22 rfl rfl
theorem dksX2_init_2_12 : cX2_init_2.data.toList.drop 278 = dktX2_init_2_12 := dk_seg dksX2_init_2_11 24 rfl rfl
theorem dksX2_init_2_13 : cX2_init_2.data.toList.drop 302 = dktX2_init_2_13 := dk_seg dksX2_init_2_12 24 rfl rfl
theorem dX2_init_2_0 : decode cX2_init_2 0 = .ok (.aload_n 0, 1) := dk_42 (dk_at dksX2_init_2_0 0 rfl rfl)
theorem dX2_init_2_1 : decode cX2_init_2 1 = .ok (.invokespecial 3, 3) := dk_183 0 3 (dk_at dksX2_init_2_0 1 rfl rfl)
theorem dX2_init_2_4 : decode cX2_init_2 4 = .ok (.aload_n 0, 1) := dk_42 (dk_at dksX2_init_2_0 4 rfl rfl)
theorem dX2_init_2_5 : decode cX2_init_2 5 = .ok (.new 9, 3) := dk_187 0 9 (dk_at dksX2_init_2_0 5 rfl rfl)
theorem dX2_init_2_8 : decode cX2_init_2 8 = .ok (.dup, 1) := dk_89 (dk_at dksX2_init_2_0 8 rfl rfl)
theorem dX2_init_2_9 : decode cX2_init_2 9 = .ok (.invokespecial 11, 3) := dk_183 0 11 (dk_at dksX2_init_2_0 9 rfl rfl)
theorem dX2_init_2_12 : decode cX2_init_2 12 = .ok (.putfield 12, 3) := dk_181 0 12 (dk_at dksX2_init_2_0 12 rfl rfl)
theorem dX2_init_2_15 : decode cX2_init_2 15 = .ok (.aload_n 0, 1) := dk_42 (dk_at dksX2_init_2_0 15 rfl rfl)
theorem dX2_init_2_16 : decode cX2_init_2 16 = .ok (.new 9, 3) := dk_187 0 9 (dk_at dksX2_init_2_0 16 rfl rfl)
theorem dX2_init_2_19 : decode cX2_init_2 19 = .ok (.dup, 1) := dk_89 (dk_at dksX2_init_2_0 19 rfl rfl)
theorem dX2_init_2_20 : decode cX2_init_2 20 = .ok (.invokespecial 11, 3) := dk_183 0 11 (dk_at dksX2_init_2_0 20 rfl rfl)
theorem dX2_init_2_23 : decode cX2_init_2 23 = .ok (.putfield 18, 3) := dk_181 0 18 (dk_at dksX2_init_2_1 0 rfl rfl)
theorem dX2_init_2_26 : decode cX2_init_2 26 = .ok (.aload_n 0, 1) := dk_42 (dk_at dksX2_init_2_1 3 rfl rfl)
theorem dX2_init_2_27 : decode cX2_init_2 27 = .ok (.new 9, 3) := dk_187 0 9 (dk_at dksX2_init_2_1 4 rfl rfl)
theorem dX2_init_2_30 : decode cX2_init_2 30 = .ok (.dup, 1) := dk_89 (dk_at dksX2_init_2_1 7 rfl rfl)
theorem dX2_init_2_31 : decode cX2_init_2 31 = .ok (.invokespecial 11, 3) := dk_183 0 11 (dk_at dksX2_init_2_1 8 rfl rfl)
theorem dX2_init_2_34 : decode cX2_init_2 34 = .ok (.putfield 21, 3) := dk_181 0 21 (dk_at dksX2_init_2_1 11 rfl rfl)
theorem dX2_init_2_37 : decode cX2_init_2 37 = .ok (.aload_n 0, 1) := dk_42 (dk_at dksX2_init_2_1 14 rfl rfl)
theorem dX2_init_2_38 : decode cX2_init_2 38 = .ok (.new 9, 3) := dk_187 0 9 (dk_at dksX2_init_2_1 15 rfl rfl)
theorem dX2_init_2_41 : decode cX2_init_2 41 = .ok (.dup, 1) := dk_89 (dk_at dksX2_init_2_1 18 rfl rfl)
theorem dX2_init_2_42 : decode cX2_init_2 42 = .ok (.invokespecial 11, 3) := dk_183 0 11 (dk_at dksX2_init_2_1 19 rfl rfl)
theorem dX2_init_2_45 : decode cX2_init_2 45 = .ok (.putfield 24, 3) := dk_181 0 24 (dk_at dksX2_init_2_2 0 rfl rfl)
theorem dX2_init_2_48 : decode cX2_init_2 48 = .ok (.aload_n 0, 1) := dk_42 (dk_at dksX2_init_2_2 3 rfl rfl)
theorem dX2_init_2_49 : decode cX2_init_2 49 = .ok (.new 9, 3) := dk_187 0 9 (dk_at dksX2_init_2_2 4 rfl rfl)
theorem dX2_init_2_52 : decode cX2_init_2 52 = .ok (.dup, 1) := dk_89 (dk_at dksX2_init_2_2 7 rfl rfl)
theorem dX2_init_2_53 : decode cX2_init_2 53 = .ok (.invokespecial 11, 3) := dk_183 0 11 (dk_at dksX2_init_2_2 8 rfl rfl)
theorem dX2_init_2_56 : decode cX2_init_2 56 = .ok (.putfield 27, 3) := dk_181 0 27 (dk_at dksX2_init_2_2 11 rfl rfl)
theorem dX2_init_2_59 : decode cX2_init_2 59 = .ok (.aload_n 0, 1) := dk_42 (dk_at dksX2_init_2_2 14 rfl rfl)
theorem dX2_init_2_60 : decode cX2_init_2 60 = .ok (.new 30, 3) := dk_187 0 30 (dk_at dksX2_init_2_2 15 rfl rfl)
theorem dX2_init_2_63 : decode cX2_init_2 63 = .ok (.dup, 1) := dk_89 (dk_at dksX2_init_2_2 18 rfl rfl)
theorem dX2_init_2_64 : decode cX2_init_2 64 = .ok (.invokespecial 32, 3) := dk_183 0 32 (dk_at dksX2_init_2_2 19 rfl rfl)
theorem dX2_init_2_67 : decode cX2_init_2 67 = .ok (.putfield 33, 3) := dk_181 0 33 (dk_at dksX2_init_2_3 0 rfl rfl)
theorem dX2_init_2_70 : decode cX2_init_2 70 = .ok (.aload_n 0, 1) := dk_42 (dk_at dksX2_init_2_3 3 rfl rfl)
theorem dX2_init_2_71 : decode cX2_init_2 71 = .ok (.sipush 256, 3) := dk_17 1 0 (dk_at dksX2_init_2_3 4 rfl rfl)
theorem dX2_init_2_74 : decode cX2_init_2 74 = .ok (.iconst 4, 1) := dk_7 (dk_at dksX2_init_2_3 7 rfl rfl)
theorem dX2_init_2_75 : decode cX2_init_2 75 = .ok (.multianewarray 37 2, 4) := by decide +kernel
theorem dX2_init_2_79 : decode cX2_init_2 79 = .ok (.putfield 39, 3) := dk_181 0 39 (dk_at dksX2_init_2_3 12 rfl rfl)
theorem dX2_init_2_82 : decode cX2_init_2 82 = .ok (.aload_n 0, 1) := dk_42 (dk_at dksX2_init_2_3 15 rfl rfl)
theorem dX2_init_2_83 : decode cX2_init_2 83 = .ok (.bipush 8, 2) := dk_16 8 (dk_at dksX2_init_2_3 16 rfl rfl)
theorem dX2_init_2_85 : decode cX2_init_2 85 = .ok (.newarray .int, 2) := dk_188_10 (dk_at dksX2_init_2_3 18 rfl rfl)
theorem dX2_init_2_87 : decode cX2_init_2 87 = .ok (.putfield 42, 3) := dk_181 0 42 (dk_at dksX2_init_2_3 20 rfl rfl)
theorem dX2_init_2_90 : decode cX2_init_2 90 = .ok (.aload_n 0, 1) := dk_42 (dk_at dksX2_init_2_3 23 rfl rfl)
theorem dX2_init_2_91 : decode cX2_init_2 91 = .ok (.iconst 2, 1) := dk_5 (dk_at dksX2_init_2_4 0 rfl rfl)
theorem dX2_init_2_92 : decode cX2_init_2 92 = .ok (.bipush 21, 2) := dk_16 21 (dk_at dksX2_init_2_4 1 rfl rfl)
theorem dX2_init_2_94 : decode cX2_init_2 94 = .ok (.multianewarray 46 2, 4) := by decide +kernel
theorem dX2_init_2_98 : decode cX2_init_2 98 = .ok (.putfield 48, 3) := dk_181 0 48 (dk_at dksX2_init_2_4 7 rfl rfl)
theorem dX2_init_2_101 : decode cX2_init_2 101 = .ok (.iconst 0, 1) := dk_3 (dk_at dksX2_init_2_4 10 rfl rfl)
theorem dX2_init_2_102 : decode cX2_init_2 102 = .ok (.istore_n 2, 1) := dk_61 (dk_at dksX2_init_2_4 11 rfl rfl)
theorem dX2_init_2_103 : decode cX2_init_2 103 = .ok (.iload_n 2, 1) := dk_28 (dk_at dksX2_init_2_4 12 rfl rfl)
theorem dX2_init_2_104 : decode cX2_init_2 104 = .ok (.aload_n 1, 1) := dk_43 (dk_at dksX2_init_2_4 13 rfl rfl)
theorem dX2_init_2_105 : decode cX2_init_2 105 = .ok (.getfield 12, 3) := dk_180 0 12 (dk_at dksX2_init_2_4 14 rfl rfl)
theorem dX2_init_2_108 : decode cX2_init_2 108 = .ok (.invokevirtual 51, 3) := dk_182 0 51 (dk_at dksX2_init_2_4 17 rfl rfl)
theorem dX2_init_2_111 : decode cX2_init_2 111 = .ok (.if_icmp .ge 35, 3) := dk_162 0 35 (dk_at dksX2_init_2_4 20 rfl rfl)
theorem dX2_init_2_114 : decode cX2_init_2 114 = .ok (.aload_n 0, 1) := dk_42 (dk_at dksX2_init_2_4 23 rfl rfl)
theorem dX2_init_2_115 : decode cX2_init_2 115 = .ok (.getfield 12, 3) := dk_180 0 12 (dk_at dksX2_init_2_5 0 rfl rfl)
theorem dX2_init_2_118 : decode cX2_init_2 118 = .ok (.new 55, 3) := dk_187 0 55 (dk_at dksX2_init_2_5 3 rfl rfl)
theorem dX2_init_2_121 : decode cX2_init_2 121 = .ok (.dup, 1) := dk_89 (dk_at dksX2_init_2_5 6 rfl rfl)
theorem dX2_init_2_122 : decode cX2_init_2 122 = .ok (.aload_n 1, 1) := dk_43 (dk_at dksX2_init_2_5 7 rfl rfl)
theorem dX2_init_2_123 : decode cX2_init_2 123 = .ok (.getfield 12, 3) := dk_180 0 12 (dk_at dksX2_init_2_5 8 rfl rfl)
theorem dX2_init_2_126 : decode cX2_init_2 126 = .ok (.iload_n 2, 1) := dk_28 (dk_at dksX2_init_2_5 11 rfl rfl)
theorem dX2_init_2_127 : decode cX2_init_2 127 = .ok (.invokevirtual 57, 3) := dk_182 0 57 (dk_at dksX2_init_2_5 12 rfl rfl)
theorem dX2_init_2_130 : decode cX2_init_2 130 = .ok (.checkcast 55, 3) := dk_192 0 55 (dk_at dksX2_init_2_5 15 rfl rfl)
theorem dX2_init_2_133 : decode cX2_init_2 133 = .ok (.invokespecial 61, 3) := dk_183 0 61 (dk_at dksX2_init_2_5 18 rfl rfl)
theorem dX2_init_2_136 : decode cX2_init_2 136 = .ok (.invokevirtual 64, 3) := dk_182 0 64 (dk_at dksX2_init_2_5 21 rfl rfl)
theorem dX2_init_2_139 : decode cX2_init_2 139 = .ok (.pop, 1) := dk_87 (dk_at dksX2_init_2_6 0 rfl rfl)
theorem dX2_init_2_140 : decode cX2_init_2 140 = .ok (.iinc 2 1, 3) := dk_132 2 1 (dk_at dksX2_init_2_6 1 rfl rfl)
theorem dX2_init_2_143 : decode cX2_init_2 143 = .ok (.goto (-40), 3) := dk_167 255 216 (dk_at dksX2_init_2_6 4 rfl rfl)
theorem dX2_init_2_146 : decode cX2_init_2 146 = .ok (.aload_n 1, 1) := dk_43 (dk_at dksX2_init_2_6 7 rfl rfl)
theorem dX2_init_2_147 : decode cX2_init_2 147 = .ok (.getfield 18, 3) := dk_180 0 18 (dk_at dksX2_init_2_6 8 rfl rfl)
theorem dX2_init_2_150 : decode cX2_init_2 150 = .ok (.aload_n 0, 1) := dk_42 (dk_at dksX2_init_2_6 11 rfl rfl)
theorem dX2_init_2_151 : decode cX2_init_2 151 = .ok (.getfield 18, 3) := dk_180 0 18 (dk_at dksX2_init_2_6 12 rfl rfl)
theorem dX2_init_2_154 : decode cX2_init_2 154 = .ok (.invokestatic 68, 3) := dk_184 0 68 (dk_at dksX2_init_2_6 15 rfl rfl)
theorem dX2_init_2_157 : decode cX2_init_2 157 = .ok (.aload_n 1, 1) := dk_43 (dk_at dksX2_init_2_6 18 rfl rfl)
theorem dX2_init_2_158 : decode cX2_init_2 158 = .ok (.getfield 21, 3) := dk_180 0 21 (dk_at dksX2_init_2_6 19 rfl rfl)
theorem dX2_init_2_161 : decode cX2_init_2 161 = .ok (.aload_n 0, 1) := dk_42 (dk_at dksX2_init_2_6 22 rfl rfl)
theorem dX2_init_2_162 : decode cX2_init_2 162 = .ok (.getfield 21, 3) := dk_180 0 21 (dk_at dksX2_init_2_7 0 rfl rfl)
theorem dX2_init_2_165 : decode cX2_init_2 165 = .ok (.invokestatic 68, 3) := dk_184 0 68 (dk_at dksX2_init_2_7 3 rfl rfl)
theorem dX2_init_2_168 : decode cX2_init_2 168 = .ok (.aload_n 1, 1) := dk_43 (dk_at dksX2_init_2_7 6 rfl rfl)
theorem dX2_init_2_169 : decode cX2_init_2 169 = .ok (.getfield 24, 3) := dk_180 0 24 (dk_at dksX2_init_2_7 7 rfl rfl)
theorem dX2_init_2_172 : decode cX2_init_2 172 = .ok (.aload_n 0, 1) := dk_42 (dk_at dksX2_init_2_7 10 rfl rfl)
theorem dX2_init_2_173 : decode cX2_init_2 173 = .ok (.getfield 24, 3) := dk_180 0 24 (dk_at dksX2_init_2_7 11 rfl rfl)
theorem dX2_init_2_176 : decode cX2_init_2 176 = .ok (.invokestatic 68, 3) := dk_184 0 68 (dk_at dksX2_init_2_7 14 rfl rfl)
theorem dX2_init_2_179 : decode cX2_init_2 179 = .ok (.aload_n 1, 1) := dk_43 (dk_at dksX2_init_2_7 17 rfl rfl)
theorem dX2_init_2_180 : decode cX2_init_2 180 = .ok (.getfield 27, 3) := dk_180 0 27 (dk_at dksX2_init_2_7 18 rfl rfl)
theorem dX2_init_2_183 : decode cX2_init_2 183 = .ok (.aload_n 0, 1) := dk_42 (dk_at dksX2_init_2_7 21 rfl rfl)
theorem dX2_init_2_184 : decode cX2_init_2 184 = .ok (.getfield 27, 3) := dk_180 0 27 (dk_at dksX2_init_2_8 0 rfl rfl)
theorem dX2_init_2_187 : decode cX2_init_2 187 = .ok (.invokestatic 68, 3) := dk_184 0 68 (dk_at dksX2_init_2_8 3 rfl rfl)
theorem dX2_init_2_190 : decode cX2_init_2 190 = .ok (.aload_n 0, 1) := dk_42 (dk_at dksX2_init_2_8 6 rfl rfl)
theorem dX2_init_2_191 : decode cX2_init_2 191 = .ok (.aload_n 1, 1) := dk_43 (dk_at dksX2_init_2_8 7 rfl rfl)
theorem dX2_init_2_192 : decode cX2_init_2 192 = .ok (.getfield 33, 3) := dk_180 0 33 (dk_at dksX2_init_2_8 8 rfl rfl)
theorem dX2_init_2_195 : decode cX2_init_2 195 = .ok (.putfield 33, 3) := dk_181 0 33 (dk_at dksX2_init_2_8 11 rfl rfl)
theorem dX2_init_2_198 : decode cX2_init_2 198 = .ok (.iconst 0, 1) := dk_3 (dk_at dksX2_init_2_8 14 rfl rfl)
theorem dX2_init_2_199 : decode cX2_init_2 199 = .ok (.istore_n 2, 1) := dk_61 (dk_at dksX2_init_2_8 15 rfl rfl)
theorem dX2_init_2_200 : decode cX2_init_2 200 = .ok (.iload_n 2, 1) := dk_28 (dk_at dksX2_init_2_8 16 rfl rfl)
theorem dX2_init_2_201 : decode cX2_init_2 201 = .ok (.sipush 256, 3) := dk_17 1 0 (dk_at dksX2_init_2_8 17 rfl rfl)
theorem dX2_init_2_204 : decode cX2_init_2 204 = .ok (.if_icmp .ge 27, 3) := dk_162 0 27 (dk_at dksX2_init_2_8 20 rfl rfl)
theorem dX2_init_2_207 : decode cX2_init_2 207 = .ok (.aload_n 1, 1) := dk_43 (dk_at dksX2_init_2_8 23 rfl rfl)
theorem dX2_init_2_208 : decode cX2_init_2 208 = .ok (.getfield 39, 3) := dk_180 0 39 (dk_at dksX2_init_2_9 0 rfl rfl)
theorem dX2_init_2_211 : decode cX2_init_2 211 = .ok (.iload_n 2, 1) := dk_28 (dk_at dksX2_init_2_9 3 rfl rfl)
theorem dX2_init_2_212 : decode cX2_init_2 212 = .ok (.aaload, 1) := dk_50 (dk_at dksX2_init_2_9 4 rfl rfl)
theorem dX2_init_2_213 : decode cX2_init_2 213 = .ok (.iconst 0, 1) := dk_3 (dk_at dksX2_init_2_9 5 rfl rfl)
theorem dX2_init_2_214 : decode cX2_init_2 214 = .ok (.aload_n 0, 1) := dk_42 (dk_at dksX2_init_2_9 6 rfl rfl)
theorem dX2_init_2_215 : decode cX2_init_2 215 = .ok (.getfield 39, 3) := dk_180 0 39 (dk_at dksX2_init_2_9 7 rfl rfl)
theorem dX2_init_2_218 : decode cX2_init_2 218 = .ok (.iload_n 2, 1) := dk_28 (dk_at dksX2_init_2_9 10 rfl rfl)
theorem dX2_init_2_219 : decode cX2_init_2 219 = .ok (.aaload, 1) := dk_50 (dk_at dksX2_init_2_9 11 rfl rfl)
theorem dX2_init_2_220 : decode cX2_init_2 220 = .ok (.iconst 0, 1) := dk_3 (dk_at dksX2_init_2_9 12 rfl rfl)
theorem dX2_init_2_221 : decode cX2_init_2 221 = .ok (.iconst 4, 1) := dk_7 (dk_at dksX2_init_2_9 13 rfl rfl)
theorem dX2_init_2_222 : decode cX2_init_2 222 = .ok (.invokestatic 72, 3) := dk_184 0 72 (dk_at dksX2_init_2_9 14 rfl rfl)
theorem dX2_init_2_225 : decode cX2_init_2 225 = .ok (.iinc 2 1, 3) := dk_132 2 1 (dk_at dksX2_init_2_9 17 rfl rfl)
theorem dX2_init_2_228 : decode cX2_init_2 228 = .ok (.goto (-28), 3) := dk_167 255 228 (dk_at dksX2_init_2_9 20 rfl rfl)
theorem dX2_init_2_231 : decode cX2_init_2 231 = .ok (.aload_n 1, 1) := dk_43 (dk_at dksX2_init_2_9 23 rfl rfl)
theorem dX2_init_2_232 : decode cX2_init_2 232 = .ok (.getfield 42, 3) := dk_180 0 42 (dk_at dksX2_init_2_10 0 rfl rfl)
theorem dX2_init_2_235 : decode cX2_init_2 235 = .ok (.iconst 0, 1) := dk_3 (dk_at dksX2_init_2_10 3 rfl rfl)
theorem dX2_init_2_236 : decode cX2_init_2 236 = .ok (.aload_n 0, 1) := dk_42 (dk_at dksX2_init_2_10 4 rfl rfl)
theorem dX2_init_2_237 : decode cX2_init_2 237 = .ok (.getfield 42, 3) := dk_180 0 42 (dk_at dksX2_init_2_10 5 rfl rfl)
theorem dX2_init_2_240 : decode cX2_init_2 240 = .ok (.iconst 0, 1) := dk_3 (dk_at dksX2_init_2_10 8 rfl rfl)
theorem dX2_init_2_241 : decode cX2_init_2 241 = .ok (.bipush 8, 2) := dk_16 8 (dk_at dksX2_init_2_10 9 rfl rfl)
theorem dX2_init_2_243 : decode cX2_init_2 243 = .ok (.invokestatic 72, 3) := dk_184 0 72 (dk_at dksX2_init_2_10 11 rfl rfl)
theorem dX2_init_2_246 : decode cX2_init_2 246 = .ok (.iconst 0, 1) := dk_3 (dk_at dksX2_init_2_10 14 rfl rfl)
theorem dX2_init_2_247 : decode cX2_init_2 247 = .ok (.istore_n 2, 1) := dk_61 (dk_at dksX2_init_2_10 15 rfl rfl)
theorem dX2_init_2_248 : decode cX2_init_2 248 = .ok (.iload_n 2, 1) := dk_28 (dk_at dksX2_init_2_10 16 rfl rfl)
theorem dX2_init_2_249 : decode cX2_init_2 249 = .ok (.iconst 2, 1) := dk_5 (dk_at dksX2_init_2_10 17 rfl rfl)
theorem dX2_init_2_250 : decode cX2_init_2 250 = .ok (.if_icmp .ge 28, 3) := dk_162 0 28 (dk_at dksX2_init_2_10 18 rfl rfl)
theorem dX2_init_2_253 : decode cX2_init_2 253 = .ok (.aload_n 1, 1) := dk_43 (dk_at dksX2_init_2_10 21 rfl rfl)
theorem dX2_init_2_254 : decode cX2_init_2 254 = .ok (.getfield 48, 3) := dk_180 0 48 (dk_at dksX2_init_2_11 0 rfl rfl)
theorem dX2_init_2_257 : decode cX2_init_2 257 = .ok (.iload_n 2, 1) := dk_28 (dk_at dksX2_init_2_11 3 rfl rfl)
theorem dX2_init_2_258 : decode cX2_init_2 258 = .ok (.aaload, 1) := dk_50 (dk_at dksX2_init_2_11 4 rfl rfl)
theorem dX2_init_2_259 : decode cX2_init_2 259 = .ok (.iconst 0, 1) := dk_3 (dk_at dksX2_init_2_11 5 rfl rfl)
theorem dX2_init_2_260 : decode cX2_init_2 260 = .ok (.aload_n 0, 1) := dk_42 (dk_at dksX2_init_2_11 6 rfl rfl)
theorem dX2_init_2_261 : decode cX2_init_2 261 = .ok (.getfield 48, 3) := dk_180 0 48 (dk_at dksX2_init_2_11 7 rfl rfl)
theorem dX2_init_2_264 : decode cX2_init_2 264 = .ok (.iload_n 2, 1) := dk_28 (dk_at dksX2_init_2_11 10 rfl rfl)
theorem dX2_init_2_265 : decode cX2_init_2 265 = .ok (.aaload, 1) := dk_50 (dk_at dksX2_init_2_11 11 rfl rfl)
theorem dX2_init_2_266 : decode cX2_init_2 266 = .ok (.iconst 0, 1) := dk_3 (dk_at dksX2_init_2_11 12 rfl rfl)
theorem dX2_init_2_267 : decode cX2_init_2 267 = .ok (.bipush 21, 2) := dk_16 21 (dk_at dksX2_init_2_11 13 rfl rfl)
theorem dX2_init_2_269 : decode cX2_init_2 269 = .ok (.invokestatic 72, 3) := dk_184 0 72 (dk_at dksX2_init_2_11 15 rfl rfl)
theorem dX2_init_2_272 : decode cX2_init_2 272 = .ok (.iinc 2 1, 3) := dk_132 2 1 (dk_at dksX2_init_2_11 18 rfl rfl)
theorem dX2_init_2_275 : decode cX2_init_2 275 = .ok (.goto (-27), 3) := dk_167 255 229 (dk_at dksX2_init_2_11 21 rfl rfl)
theorem dX2_init_2_278 : decode cX2_init_2 278 = .ok (.aload_n 0, 1) := dk_42 (dk_at dksX2_init_2_12 0 rfl rfl)
theorem dX2_init_2_279 : decode cX2_init_2 279 = .ok (.aload_n 1, 1) := dk_43 (dk_at dksX2_init_2_12 1 rfl rfl)
theorem dX2_init_2_280 : decode cX2_init_2 280 = .ok (.getfield 78, 3) := dk_180 0 78 (dk_at dksX2_init_2_12 2 rfl rfl)
theorem dX2_init_2_283 : decode cX2_init_2 283 = .ok (.putfield 78, 3) := dk_181 0 78 (dk_at dksX2_init_2_12 5 rfl rfl)
theorem dX2_init_2_286 : decode cX2_init_2 286 = .ok (.aload_n 0, 1) := dk_42 (dk_at dksX2_init_2_12 8 rfl rfl)
theorem dX2_init_2_287 : decode cX2_init_2 287 = .ok (.aload_n 1, 1) := dk_43 (dk_at dksX2_init_2_12 9 rfl rfl)
theorem dX2_init_2_288 : decode cX2_init_2 288 = .ok (.getfield 82, 3) := dk_180 0 82 (dk_at dksX2_init_2_12 10 rfl rfl)
theorem dX2_init_2_291 : decode cX2_init_2 291 = .ok (.putfield 82, 3) := dk_181 0 82 (dk_at dksX2_init_2_12 13 rfl rfl)
theorem dX2_init_2_294 : decode cX2_init_2 294 = .ok (.aload_n 0, 1) := dk_42 (dk_at dksX2_init_2_12 16 rfl rfl)
theorem dX2_init_2_295 : decode cX2_init_2 295 = .ok (.aload_n 1, 1) := dk_43 (dk_at dksX2_init_2_12 17 rfl rfl)
theorem dX2_init_2_296 : decode cX2_init_2 296 = .ok (.getfield 85, 3) := dk_180 0 85 (dk_at dksX2_init_2_12 18 rfl rfl)
theorem dX2_init_2_299 : decode cX2_init_2 299 = .ok (.putfield 85, 3) := dk_181 0 85 (dk_at dksX2_init_2_12 21 rfl rfl)
theorem dX2_init_2_302 : decode cX2_init_2 302 = .ok (.return_, 1) := dk_177 (dk_at dksX2_init_2_13 0 rfl rfl)
abbrev cX2_copies : ByteArray := prog_5_method_3_code
def yX2_copies : MethodName := ⟨RX2, "copies", "(Ljava/util/ArrayList;Ljava/util/ArrayList;)V"⟩
def dkwX2_copies_1 : List UInt8 := [167, 255, 235, 177]
abbrev dktX2_copies_1 : List UInt8 := dkwX2_copies_1 ++ []
def dkwX2_copies_0 : List UInt8 := [3, 61, 28, 42, 182, 0, 51, 162, 0, 19, 43, 42, 28, 182, 0, 57, 182, 0, 64, 87, 132, 2, 1]
abbrev dktX2_copies_0 : List UInt8 := dkwX2_copies_0 ++ dktX2_copies_1
theorem dksX2_copies_0 : cX2_copies.data.toList.drop 0 = dktX2_copies_0 := by decide +kernel
theorem dksX2_copies_1 : cX2_copies.data.toList.drop 23 = dktX2_copies_1 := dk_seg dksX2_copies_0 23 rfl rfl
theorem dX2_copies_0 : decode cX2_copies 0 = .ok (.iconst 0, 1) := dk_3 (dk_at dksX2_copies_0 0 rfl rfl)
theorem dX2_copies_1 : decode cX2_copies 1 = .ok (.istore_n 2, 1) := dk_61 (dk_at dksX2_copies_0 1 rfl rfl)
theorem dX2_copies_2 : decode cX2_copies 2 = .ok (.iload_n 2, 1) := dk_28 (dk_at dksX2_copies_0 2 rfl rfl)
theorem dX2_copies_3 : decode cX2_copies 3 = .ok (.aload_n 0, 1) := dk_42 (dk_at dksX2_copies_0 3 rfl rfl)
theorem dX2_copies_4 : decode cX2_copies 4 = .ok (.invokevirtual 51, 3) := dk_182 0 51 (dk_at dksX2_copies_0 4 rfl rfl)
theorem dX2_copies_7 : decode cX2_copies 7 = .ok (.if_icmp .ge 19, 3) := dk_162 0 19 (dk_at dksX2_copies_0 7 rfl rfl)
theorem dX2_copies_10 : decode cX2_copies 10 = .ok (.aload_n 1, 1) := dk_43 (dk_at dksX2_copies_0 10 rfl rfl)
theorem dX2_copies_11 : decode cX2_copies 11 = .ok (.aload_n 0, 1) := dk_42 (dk_at dksX2_copies_0 11 rfl rfl)
theorem dX2_copies_12 : decode cX2_copies 12 = .ok (.iload_n 2, 1) := dk_28 (dk_at dksX2_copies_0 12 rfl rfl)
theorem dX2_copies_13 : decode cX2_copies 13 = .ok (.invokevirtual 57, 3) := dk_182 0 57 (dk_at dksX2_copies_0 13 rfl rfl)
theorem dX2_copies_16 : decode cX2_copies 16 = .ok (.invokevirtual 64, 3) := dk_182 0 64 (dk_at dksX2_copies_0 16 rfl rfl)
theorem dX2_copies_19 : decode cX2_copies 19 = .ok (.pop, 1) := dk_87 (dk_at dksX2_copies_0 19 rfl rfl)
theorem dX2_copies_20 : decode cX2_copies 20 = .ok (.iinc 2 1, 3) := dk_132 2 1 (dk_at dksX2_copies_0 20 rfl rfl)
theorem dX2_copies_23 : decode cX2_copies 23 = .ok (.goto (-21), 3) := dk_167 255 235 (dk_at dksX2_copies_1 0 rfl rfl)
theorem dX2_copies_26 : decode cX2_copies 26 = .ok (.return_, 1) := dk_177 (dk_at dksX2_copies_1 3 rfl rfl)
theorem q98 : (Jvm.Cond.initialized "PumpCrossing$Crossing") ∈ lw_all := lw_g (lw_at lw_m1 2 rfl) rfl
theorem q155 : (Jvm.Cond.instantiable "PumpCrossing$Crossing" (12 : Nat)) ∈ lw_all := lw_g (lw_at lw_m1 59 rfl) rfl
theorem q157 : (Jvm.Cond.instanceMethod ({ cls := "PumpCrossing$Crossing", name := "<init>", desc := "()V" } : Jvm.MethodName)) ∈ lw_all := lw_g (lw_at lw_m1 61 rfl) rfl
theorem q158 : (Jvm.Cond.code ({ cls := "PumpCrossing$Crossing", name := "<init>", desc := "()V" } : Jvm.MethodName) prog_5_method_1_code (3 : Nat) (Option.none : Option Jvm.ClassFile.FieldType)) ∈ lw_all := lw_g (lw_at lw_m1 62 rfl) rfl
theorem q159 : (Jvm.Cond.methodLink "PumpCrossing$Crossing" (3 : Nat) ({ cls := "java/lang/Object", name := "<init>", desc := "()V" } : Jvm.MethodName)) ∈ lw_all := lw_g (lw_at lw_m1 63 rfl) rfl
theorem q160 : (Jvm.Cond.classLink "PumpCrossing$Crossing" (9 : Nat) "java/util/ArrayList") ∈ lw_all := lw_g (lw_at lw_m1 64 rfl) rfl
theorem q162 : (Jvm.Cond.methodLink "PumpCrossing$Crossing" (11 : Nat) ({ cls := "java/util/ArrayList", name := "<init>", desc := "()V" } : Jvm.MethodName)) ∈ lw_all := lw_g (lw_at lw_m1 66 rfl) rfl
theorem q186 : (Jvm.Cond.classLink "PumpCrossing$Crossing" (30 : Nat) "PumpCrossing$Law") ∈ lw_all := lw_g (lw_at lw_m1 90 rfl) rfl
theorem q188 : (Jvm.Cond.methodLinkNest "PumpCrossing$Crossing" (32 : Nat) ({ cls := "PumpCrossing$Law", name := "<init>", desc := "()V" } : Jvm.MethodName) "PumpCrossing") ∈ lw_tbl := lw_at lw_m1 92 rfl
theorem q213 : (Jvm.Cond.classLink "PumpCrossing$Crossing" (37 : Nat) "[[B") ∈ lw_all := lw_g (lw_at lw_m1 117 rfl) rfl
theorem q215 : (Jvm.Cond.classLink "PumpCrossing$Crossing" (46 : Nat) "[[I") ∈ lw_all := lw_g (lw_at lw_m1 119 rfl) rfl
theorem q217 : (Jvm.Cond.fieldLink "PumpCrossing$Crossing" (12 : Nat) "PumpCrossing$Crossing" "stations" "Ljava/util/ArrayList;") ∈ lw_all := lw_g (lw_at lw_m1 121 rfl) rfl
theorem q220 : (Jvm.Cond.fieldLink "PumpCrossing$Crossing" (18 : Nat) "PumpCrossing$Crossing" "drivers" "Ljava/util/ArrayList;") ∈ lw_all := lw_g (lw_at lw_m1 124 rfl) rfl
theorem q222 : (Jvm.Cond.fieldLink "PumpCrossing$Crossing" (21 : Nat) "PumpCrossing$Crossing" "changes" "Ljava/util/ArrayList;") ∈ lw_all := lw_g (lw_at lw_m1 126 rfl) rfl
theorem q224 : (Jvm.Cond.fieldLink "PumpCrossing$Crossing" (24 : Nat) "PumpCrossing$Crossing" "rises" "Ljava/util/ArrayList;") ∈ lw_all := lw_g (lw_at lw_m1 128 rfl) rfl
theorem q226 : (Jvm.Cond.fieldLink "PumpCrossing$Crossing" (27 : Nat) "PumpCrossing$Crossing" "told" "Ljava/util/ArrayList;") ∈ lw_all := lw_g (lw_at lw_m1 130 rfl) rfl
theorem q229 : (Jvm.Cond.fieldLink "PumpCrossing$Crossing" (33 : Nat) "PumpCrossing$Crossing" "law" "LPumpCrossing$Law;") ∈ lw_all := lw_g (lw_at lw_m1 133 rfl) rfl
theorem q231 : (Jvm.Cond.fieldLink "PumpCrossing$Crossing" (39 : Nat) "PumpCrossing$Crossing" "boards" "[[B") ∈ lw_all := lw_g (lw_at lw_m1 135 rfl) rfl
theorem q233 : (Jvm.Cond.fieldLink "PumpCrossing$Crossing" (42 : Nat) "PumpCrossing$Crossing" "levels" "[I") ∈ lw_all := lw_g (lw_at lw_m1 137 rfl) rfl
theorem q235 : (Jvm.Cond.fieldLink "PumpCrossing$Crossing" (48 : Nat) "PumpCrossing$Crossing" "weights" "[[I") ∈ lw_all := lw_g (lw_at lw_m1 139 rfl) rfl
theorem q237 : (Jvm.Cond.fieldLink "PumpCrossing$Crossing" (78 : Nat) "PumpCrossing$Crossing" "hours" "I") ∈ lw_all := lw_g (lw_at lw_m1 141 rfl) rfl
theorem q239 : (Jvm.Cond.fieldLink "PumpCrossing$Crossing" (82 : Nat) "PumpCrossing$Crossing" "levelMany" "I") ∈ lw_all := lw_g (lw_at lw_m1 143 rfl) rfl
theorem q242 : (Jvm.Cond.fieldLink "PumpCrossing$Crossing" (85 : Nat) "PumpCrossing$Crossing" "paid" "J") ∈ lw_all := lw_g (lw_at lw_m1 146 rfl) rfl
theorem q244 : (Jvm.Cond.laysFinal "PumpCrossing$Crossing" "PumpCrossing$Crossing" "stations" "Ljava/util/ArrayList;") ∈ lw_all := lw_g (lw_at lw_m1 148 rfl) rfl
theorem q245 : (Jvm.Cond.soleField "PumpCrossing$Crossing" "stations") ∈ lw_all := lw_g (lw_at lw_m1 149 rfl) rfl
theorem q246 : (Jvm.Cond.laysFinal "PumpCrossing$Crossing" "PumpCrossing$Crossing" "drivers" "Ljava/util/ArrayList;") ∈ lw_all := lw_g (lw_at lw_m1 150 rfl) rfl
theorem q247 : (Jvm.Cond.soleField "PumpCrossing$Crossing" "drivers") ∈ lw_all := lw_g (lw_at lw_m1 151 rfl) rfl
theorem q248 : (Jvm.Cond.laysFinal "PumpCrossing$Crossing" "PumpCrossing$Crossing" "changes" "Ljava/util/ArrayList;") ∈ lw_all := lw_g (lw_at lw_m1 152 rfl) rfl
theorem q249 : (Jvm.Cond.soleField "PumpCrossing$Crossing" "changes") ∈ lw_all := lw_g (lw_at lw_m1 153 rfl) rfl
theorem q250 : (Jvm.Cond.laysFinal "PumpCrossing$Crossing" "PumpCrossing$Crossing" "rises" "Ljava/util/ArrayList;") ∈ lw_all := lw_g (lw_at lw_m1 154 rfl) rfl
theorem q251 : (Jvm.Cond.soleField "PumpCrossing$Crossing" "rises") ∈ lw_all := lw_g (lw_at lw_m1 155 rfl) rfl
theorem q252 : (Jvm.Cond.laysFinal "PumpCrossing$Crossing" "PumpCrossing$Crossing" "told" "Ljava/util/ArrayList;") ∈ lw_all := lw_g (lw_at lw_m1 156 rfl) rfl
theorem q253 : (Jvm.Cond.soleField "PumpCrossing$Crossing" "told") ∈ lw_all := lw_g (lw_at lw_m1 157 rfl) rfl
theorem q254 : (Jvm.Cond.lays "PumpCrossing$Crossing" "PumpCrossing$Crossing" "law" "LPumpCrossing$Law;") ∈ lw_all := lw_g (lw_at lw_m1 158 rfl) rfl
theorem q255 : (Jvm.Cond.soleField "PumpCrossing$Crossing" "law") ∈ lw_all := lw_g (lw_at lw_m1 159 rfl) rfl
theorem q256 : (Jvm.Cond.laysFinal "PumpCrossing$Crossing" "PumpCrossing$Crossing" "boards" "[[B") ∈ lw_all := lw_g (lw_at lw_m1 160 rfl) rfl
theorem q257 : (Jvm.Cond.soleField "PumpCrossing$Crossing" "boards") ∈ lw_all := lw_g (lw_at lw_m1 161 rfl) rfl
theorem q258 : (Jvm.Cond.laysFinal "PumpCrossing$Crossing" "PumpCrossing$Crossing" "levels" "[I") ∈ lw_all := lw_g (lw_at lw_m1 162 rfl) rfl
theorem q259 : (Jvm.Cond.soleField "PumpCrossing$Crossing" "levels") ∈ lw_all := lw_g (lw_at lw_m1 163 rfl) rfl
theorem q260 : (Jvm.Cond.laysFinal "PumpCrossing$Crossing" "PumpCrossing$Crossing" "weights" "[[I") ∈ lw_all := lw_g (lw_at lw_m1 164 rfl) rfl
theorem q261 : (Jvm.Cond.soleField "PumpCrossing$Crossing" "weights") ∈ lw_all := lw_g (lw_at lw_m1 165 rfl) rfl
theorem q262 : (Jvm.Cond.lays "PumpCrossing$Crossing" "PumpCrossing$Crossing" "hours" "I") ∈ lw_all := lw_g (lw_at lw_m1 166 rfl) rfl
theorem q263 : (Jvm.Cond.soleField "PumpCrossing$Crossing" "hours") ∈ lw_all := lw_g (lw_at lw_m1 167 rfl) rfl
theorem q264 : (Jvm.Cond.lays "PumpCrossing$Crossing" "PumpCrossing$Crossing" "levelMany" "I") ∈ lw_all := lw_g (lw_at lw_m1 168 rfl) rfl
theorem q265 : (Jvm.Cond.soleField "PumpCrossing$Crossing" "levelMany") ∈ lw_all := lw_g (lw_at lw_m1 169 rfl) rfl
theorem q266 : (Jvm.Cond.lays "PumpCrossing$Crossing" "PumpCrossing$Crossing" "paid" "J") ∈ lw_all := lw_g (lw_at lw_m1 170 rfl) rfl
theorem q267 : (Jvm.Cond.soleField "PumpCrossing$Crossing" "paid") ∈ lw_all := lw_g (lw_at lw_m1 171 rfl) rfl
theorem q268 : (Jvm.Cond.superclass "PumpCrossing$Crossing" "java/lang/Object") ∈ lw_all := lw_g (lw_at lw_m1 172 rfl) rfl
theorem q420 : (Jvm.Cond.instanceMethod ({ cls := "PumpCrossing$Crossing", name := "isBoard", desc := "(I)Z" } : Jvm.MethodName)) ∈ lw_all := lw_g (lw_at lw_m2 84 rfl) rfl
theorem q421 : (Jvm.Cond.selects "PumpCrossing$Crossing" ({ cls := "PumpCrossing$Crossing", name := "isBoard", desc := "(I)Z" } : Jvm.MethodName) ({ cls := "PumpCrossing$Crossing", name := "isBoard", desc := "(I)Z" } : Jvm.MethodName)) ∈ lw_all := lw_g (lw_at lw_m2 85 rfl) rfl
theorem q422 : (Jvm.Cond.code ({ cls := "PumpCrossing$Crossing", name := "isBoard", desc := "(I)Z" } : Jvm.MethodName) prog_5_method_5_code (2 : Nat) (Option.some Jvm.ClassFile.FieldType.boolean)) ∈ lw_all := lw_g (lw_at lw_m2 86 rfl) rfl
theorem q428 : (Jvm.Cond.instanceMethod ({ cls := "PumpCrossing$Crossing", name := "many", desc := "()I" } : Jvm.MethodName)) ∈ lw_all := lw_g (lw_at lw_m2 92 rfl) rfl
theorem q429 : (Jvm.Cond.selects "PumpCrossing$Crossing" ({ cls := "PumpCrossing$Crossing", name := "many", desc := "()I" } : Jvm.MethodName) ({ cls := "PumpCrossing$Crossing", name := "many", desc := "()I" } : Jvm.MethodName)) ∈ lw_all := lw_g (lw_at lw_m2 93 rfl) rfl
theorem q430 : (Jvm.Cond.code ({ cls := "PumpCrossing$Crossing", name := "many", desc := "()I" } : Jvm.MethodName) prog_5_method_4_code (1 : Nat) (Option.some Jvm.ClassFile.FieldType.int)) ∈ lw_all := lw_g (lw_at lw_m2 94 rfl) rfl
theorem q431 : (Jvm.Cond.methodLink "PumpCrossing$Crossing" (51 : Nat) ({ cls := "java/util/ArrayList", name := "size", desc := "()I" } : Jvm.MethodName)) ∈ lw_all := lw_g (lw_at lw_m2 95 rfl) rfl
theorem q436 : (Jvm.Cond.instanceMethod ({ cls := "PumpCrossing$Crossing", name := "at", desc := "(II)I" } : Jvm.MethodName)) ∈ lw_all := lw_g (lw_at lw_m2 100 rfl) rfl
theorem q437 : (Jvm.Cond.selects "PumpCrossing$Crossing" ({ cls := "PumpCrossing$Crossing", name := "at", desc := "(II)I" } : Jvm.MethodName) ({ cls := "PumpCrossing$Crossing", name := "at", desc := "(II)I" } : Jvm.MethodName)) ∈ lw_all := lw_g (lw_at lw_m2 101 rfl) rfl
theorem q438 : (Jvm.Cond.code ({ cls := "PumpCrossing$Crossing", name := "at", desc := "(II)I" } : Jvm.MethodName) prog_5_method_6_code (3 : Nat) (Option.some Jvm.ClassFile.FieldType.int)) ∈ lw_all := lw_g (lw_at lw_m2 102 rfl) rfl
theorem q681 : (Jvm.Cond.selects "PumpCrossing$Crossing" ({ cls := "java/lang/Object", name := "getClass", desc := "()Ljava/lang/Class;" } : Jvm.MethodName) ({ cls := "java/lang/Object", name := "getClass", desc := "()Ljava/lang/Class;" } : Jvm.MethodName)) ∈ lw_all := lw_g (lw_at lw_m3 105 rfl) rfl
theorem q1802 : (Jvm.Cond.instanceMethod ({ cls := "PumpCrossing$Crossing", name := "<init>", desc := "(LPumpCrossing$Crossing;)V" } : Jvm.MethodName)) ∈ lw_all := lw_g (lw_at lw_m8 26 rfl) rfl
theorem q1803 : (Jvm.Cond.code ({ cls := "PumpCrossing$Crossing", name := "<init>", desc := "(LPumpCrossing$Crossing;)V" } : Jvm.MethodName) prog_5_method_2_code (3 : Nat) (Option.none : Option Jvm.ClassFile.FieldType)) ∈ lw_all := lw_g (lw_at lw_m8 27 rfl) rfl
theorem q1804 : (Jvm.Cond.classLink "PumpCrossing$Crossing" (55 : Nat) "PumpCrossing$Station") ∈ lw_all := lw_g (lw_at lw_m8 28 rfl) rfl
theorem q1805 : (Jvm.Cond.methodLink "PumpCrossing$Crossing" (57 : Nat) ({ cls := "java/util/ArrayList", name := "get", desc := "(I)Ljava/lang/Object;" } : Jvm.MethodName)) ∈ lw_all := lw_g (lw_at lw_m8 29 rfl) rfl
theorem q1806 : (Jvm.Cond.methodLink "PumpCrossing$Crossing" (61 : Nat) ({ cls := "PumpCrossing$Station", name := "<init>", desc := "(LPumpCrossing$Station;)V" } : Jvm.MethodName)) ∈ lw_all := lw_g (lw_at lw_m8 30 rfl) rfl
theorem q1810 : (Jvm.Cond.methodLink "PumpCrossing$Crossing" (64 : Nat) ({ cls := "java/util/ArrayList", name := "add", desc := "(Ljava/lang/Object;)Z" } : Jvm.MethodName)) ∈ lw_all := lw_g (lw_at lw_m8 34 rfl) rfl
theorem q1811 : (Jvm.Cond.methodLink "PumpCrossing$Crossing" (68 : Nat) ({ cls := "PumpCrossing$Crossing", name := "copies", desc := "(Ljava/util/ArrayList;Ljava/util/ArrayList;)V" } : Jvm.MethodName)) ∈ lw_all := lw_g (lw_at lw_m8 35 rfl) rfl
theorem q1812 : (Jvm.Cond.static ({ cls := "PumpCrossing$Crossing", name := "copies", desc := "(Ljava/util/ArrayList;Ljava/util/ArrayList;)V" } : Jvm.MethodName)) ∈ lw_all := lw_g (lw_at lw_m8 36 rfl) rfl
theorem q1813 : (Jvm.Cond.code ({ cls := "PumpCrossing$Crossing", name := "copies", desc := "(Ljava/util/ArrayList;Ljava/util/ArrayList;)V" } : Jvm.MethodName) prog_5_method_3_code (3 : Nat) (Option.none : Option Jvm.ClassFile.FieldType)) ∈ lw_all := lw_g (lw_at lw_m8 37 rfl) rfl
theorem q1814 : (Jvm.Cond.methodLink "PumpCrossing$Crossing" (72 : Nat) ({ cls := "java/lang/System", name := "arraycopy", desc := "(Ljava/lang/Object;ILjava/lang/Object;II)V" } : Jvm.MethodName)) ∈ lw_all := lw_g (lw_at lw_m8 38 rfl) rfl
theorem q2410 : (Jvm.Cond.castable "PumpCrossing$Crossing" "java/lang/Object") ∈ lw_tbl := lw_at lw_m10 154 rfl
theorem in_X2 : ∀ w ∈ wsX20, w ∈ lw_all := lw_in wsX20 [244, 246, 248, 250, 252, 254, 256, 258, 260, 262, 264, 266] (by decide +kernel) (by decide +kernel)
/-! PumpCrossing$Law -/
set_option maxRecDepth 100000
def RX3 : String := "PumpCrossing$Law"
def TX3 : u_T := fun k => match k with
  | 0 => ("PumpCrossing$Law", "once", "I", false)
  | 1 => ("PumpCrossing$Law", "at", "I", false)
  | 2 => ("PumpCrossing$Law", "cap", "I", false)
  | 3 => ("PumpCrossing$Law", "isTold", "Z", false)
  | _ => ("PumpCrossing$Law", "isCost", "Z", false)
def tyX3 : Nat → FieldType := fun k => match k with
  | 0 => .int
  | 1 => .int
  | 2 => .int
  | 3 => .boolean
  | _ => .boolean
abbrev wsX30 : List Cond := u_ws RX3 TX3 5
theorem nmX3 : ∀ a, a < 5 → ∀ b, b < 5 → a ≠ b → (TX3 a).2.1 ≠ (TX3 b).2.1 := by decide +kernel
theorem tyX3_ok : ∀ k, k < 5 → parseFieldDescriptor (TX3 k).2.2.1 = some (tyX3 k) := by decide +kernel
abbrev cX3_init : ByteArray := prog_10_method_1_code
def yX3_init : MethodName := ⟨RX3, "<init>", "()V"⟩
def dkwX3_init_0 : List UInt8 := [42, 183, 0, 3, 42, 2, 181, 0, 9, 177]
abbrev dktX3_init_0 : List UInt8 := dkwX3_init_0 ++ []
theorem dksX3_init_0 : cX3_init.data.toList.drop 0 = dktX3_init_0 := by decide +kernel
theorem dX3_init_0 : decode cX3_init 0 = .ok (.aload_n 0, 1) := dk_42 (dk_at dksX3_init_0 0 rfl rfl)
theorem dX3_init_1 : decode cX3_init 1 = .ok (.invokespecial 3, 3) := dk_183 0 3 (dk_at dksX3_init_0 1 rfl rfl)
theorem dX3_init_4 : decode cX3_init 4 = .ok (.aload_n 0, 1) := dk_42 (dk_at dksX3_init_0 4 rfl rfl)
theorem dX3_init_5 : decode cX3_init 5 = .ok (.iconst (-1), 1) := dk_2 (dk_at dksX3_init_0 5 rfl rfl)
theorem dX3_init_6 : decode cX3_init 6 = .ok (.putfield 9, 3) := dk_181 0 9 (dk_at dksX3_init_0 6 rfl rfl)
theorem dX3_init_9 : decode cX3_init 9 = .ok (.return_, 1) := dk_177 (dk_at dksX3_init_0 9 rfl rfl)
abbrev cX3_bounded : ByteArray := prog_10_method_2_code
def yX3_bounded : MethodName := ⟨RX3, "bounded", "(III)I"⟩
def dkwX3_bounded_2 : List UInt8 := [21, 4, 184, 0, 25, 184, 0, 15, 172]
abbrev dktX3_bounded_2 : List UInt8 := dkwX3_bounded_2 ++ []
def dkwX3_bounded_1 : List UInt8 := [42, 180, 0, 21, 153, 0, 17, 21, 4, 28, 159, 0, 11, 21, 4, 29, 184, 0, 25, 54, 4, 16, 99, 3]
abbrev dktX3_bounded_1 : List UInt8 := dkwX3_bounded_1 ++ dktX3_bounded_2
def dkwX3_bounded_0 : List UInt8 := [42, 180, 0, 9, 2, 160, 0, 7, 27, 167, 0, 13, 27, 28, 42, 180, 0, 9, 96, 184, 0, 15, 54, 4]
abbrev dktX3_bounded_0 : List UInt8 := dkwX3_bounded_0 ++ dktX3_bounded_1
theorem dksX3_bounded_0 : cX3_bounded.data.toList.drop 0 = dktX3_bounded_0 := by decide +kernel
theorem dksX3_bounded_1 : cX3_bounded.data.toList.drop 24 = dktX3_bounded_1 := dk_seg dksX3_bounded_0 24 rfl rfl
theorem dksX3_bounded_2 : cX3_bounded.data.toList.drop 48 = dktX3_bounded_2 := dk_seg dksX3_bounded_1 24 rfl rfl
theorem dX3_bounded_0 : decode cX3_bounded 0 = .ok (.aload_n 0, 1) := dk_42 (dk_at dksX3_bounded_0 0 rfl rfl)
theorem dX3_bounded_1 : decode cX3_bounded 1 = .ok (.getfield 9, 3) := dk_180 0 9 (dk_at dksX3_bounded_0 1 rfl rfl)
theorem dX3_bounded_4 : decode cX3_bounded 4 = .ok (.iconst (-1), 1) := dk_2 (dk_at dksX3_bounded_0 4 rfl rfl)
theorem dX3_bounded_5 : decode cX3_bounded 5 = .ok (.if_icmp .ne 7, 3) := dk_160 0 7 (dk_at dksX3_bounded_0 5 rfl rfl)
theorem dX3_bounded_8 : decode cX3_bounded 8 = .ok (.iload_n 1, 1) := dk_27 (dk_at dksX3_bounded_0 8 rfl rfl)
theorem dX3_bounded_9 : decode cX3_bounded 9 = .ok (.goto 13, 3) := dk_167 0 13 (dk_at dksX3_bounded_0 9 rfl rfl)
theorem dX3_bounded_12 : decode cX3_bounded 12 = .ok (.iload_n 1, 1) := dk_27 (dk_at dksX3_bounded_0 12 rfl rfl)
theorem dX3_bounded_13 : decode cX3_bounded 13 = .ok (.iload_n 2, 1) := dk_28 (dk_at dksX3_bounded_0 13 rfl rfl)
theorem dX3_bounded_14 : decode cX3_bounded 14 = .ok (.aload_n 0, 1) := dk_42 (dk_at dksX3_bounded_0 14 rfl rfl)
theorem dX3_bounded_15 : decode cX3_bounded 15 = .ok (.getfield 9, 3) := dk_180 0 9 (dk_at dksX3_bounded_0 15 rfl rfl)
theorem dX3_bounded_18 : decode cX3_bounded 18 = .ok (.iadd, 1) := dk_96 (dk_at dksX3_bounded_0 18 rfl rfl)
theorem dX3_bounded_19 : decode cX3_bounded 19 = .ok (.invokestatic 15, 3) := dk_184 0 15 (dk_at dksX3_bounded_0 19 rfl rfl)
theorem dX3_bounded_22 : decode cX3_bounded 22 = .ok (.istore 4, 2) := dk_54 4 (dk_at dksX3_bounded_0 22 rfl rfl)
theorem dX3_bounded_24 : decode cX3_bounded 24 = .ok (.aload_n 0, 1) := dk_42 (dk_at dksX3_bounded_1 0 rfl rfl)
theorem dX3_bounded_25 : decode cX3_bounded 25 = .ok (.getfield 21, 3) := dk_180 0 21 (dk_at dksX3_bounded_1 1 rfl rfl)
theorem dX3_bounded_28 : decode cX3_bounded 28 = .ok (.ifCond .eq 17, 3) := dk_153 0 17 (dk_at dksX3_bounded_1 4 rfl rfl)
theorem dX3_bounded_31 : decode cX3_bounded 31 = .ok (.iload 4, 2) := dk_21 4 (dk_at dksX3_bounded_1 7 rfl rfl)
theorem dX3_bounded_33 : decode cX3_bounded 33 = .ok (.iload_n 2, 1) := dk_28 (dk_at dksX3_bounded_1 9 rfl rfl)
theorem dX3_bounded_34 : decode cX3_bounded 34 = .ok (.if_icmp .eq 11, 3) := dk_159 0 11 (dk_at dksX3_bounded_1 10 rfl rfl)
theorem dX3_bounded_37 : decode cX3_bounded 37 = .ok (.iload 4, 2) := dk_21 4 (dk_at dksX3_bounded_1 13 rfl rfl)
theorem dX3_bounded_39 : decode cX3_bounded 39 = .ok (.iload_n 3, 1) := dk_29 (dk_at dksX3_bounded_1 15 rfl rfl)
theorem dX3_bounded_40 : decode cX3_bounded 40 = .ok (.invokestatic 25, 3) := dk_184 0 25 (dk_at dksX3_bounded_1 16 rfl rfl)
theorem dX3_bounded_43 : decode cX3_bounded 43 = .ok (.istore 4, 2) := dk_54 4 (dk_at dksX3_bounded_1 19 rfl rfl)
theorem dX3_bounded_45 : decode cX3_bounded 45 = .ok (.bipush 99, 2) := dk_16 99 (dk_at dksX3_bounded_1 21 rfl rfl)
theorem dX3_bounded_47 : decode cX3_bounded 47 = .ok (.iconst 0, 1) := dk_3 (dk_at dksX3_bounded_1 23 rfl rfl)
theorem dX3_bounded_48 : decode cX3_bounded 48 = .ok (.iload 4, 2) := dk_21 4 (dk_at dksX3_bounded_2 0 rfl rfl)
theorem dX3_bounded_50 : decode cX3_bounded 50 = .ok (.invokestatic 25, 3) := dk_184 0 25 (dk_at dksX3_bounded_2 2 rfl rfl)
theorem dX3_bounded_53 : decode cX3_bounded 53 = .ok (.invokestatic 15, 3) := dk_184 0 15 (dk_at dksX3_bounded_2 5 rfl rfl)
theorem dX3_bounded_56 : decode cX3_bounded 56 = .ok (.ireturn, 1) := dk_172 (dk_at dksX3_bounded_2 8 rfl rfl)
abbrev cX3_lets : ByteArray := prog_10_method_3_code
def yX3_lets : MethodName := ⟨RX3, "lets", "(II)Z"⟩
def dkwX3_lets_1 : List UInt8 := [161, 0, 7, 4, 167, 0, 4, 3, 172]
abbrev dktX3_lets_1 : List UInt8 := dkwX3_lets_1 ++ []
def dkwX3_lets_0 : List UInt8 := [42, 180, 0, 28, 153, 0, 14, 42, 180, 0, 28, 27, 184, 0, 31, 153, 0, 15, 28, 42, 180, 0, 35]
abbrev dktX3_lets_0 : List UInt8 := dkwX3_lets_0 ++ dktX3_lets_1
theorem dksX3_lets_0 : cX3_lets.data.toList.drop 0 = dktX3_lets_0 := by decide +kernel
theorem dksX3_lets_1 : cX3_lets.data.toList.drop 23 = dktX3_lets_1 := dk_seg dksX3_lets_0 23 rfl rfl
theorem dX3_lets_0 : decode cX3_lets 0 = .ok (.aload_n 0, 1) := dk_42 (dk_at dksX3_lets_0 0 rfl rfl)
theorem dX3_lets_1 : decode cX3_lets 1 = .ok (.getfield 28, 3) := dk_180 0 28 (dk_at dksX3_lets_0 1 rfl rfl)
theorem dX3_lets_4 : decode cX3_lets 4 = .ok (.ifCond .eq 14, 3) := dk_153 0 14 (dk_at dksX3_lets_0 4 rfl rfl)
theorem dX3_lets_7 : decode cX3_lets 7 = .ok (.aload_n 0, 1) := dk_42 (dk_at dksX3_lets_0 7 rfl rfl)
theorem dX3_lets_8 : decode cX3_lets 8 = .ok (.getfield 28, 3) := dk_180 0 28 (dk_at dksX3_lets_0 8 rfl rfl)
theorem dX3_lets_11 : decode cX3_lets 11 = .ok (.iload_n 1, 1) := dk_27 (dk_at dksX3_lets_0 11 rfl rfl)
theorem dX3_lets_12 : decode cX3_lets 12 = .ok (.invokestatic 31, 3) := dk_184 0 31 (dk_at dksX3_lets_0 12 rfl rfl)
theorem dX3_lets_15 : decode cX3_lets 15 = .ok (.ifCond .eq 15, 3) := dk_153 0 15 (dk_at dksX3_lets_0 15 rfl rfl)
theorem dX3_lets_18 : decode cX3_lets 18 = .ok (.iload_n 2, 1) := dk_28 (dk_at dksX3_lets_0 18 rfl rfl)
theorem dX3_lets_19 : decode cX3_lets 19 = .ok (.aload_n 0, 1) := dk_42 (dk_at dksX3_lets_0 19 rfl rfl)
theorem dX3_lets_20 : decode cX3_lets 20 = .ok (.getfield 35, 3) := dk_180 0 35 (dk_at dksX3_lets_0 20 rfl rfl)
theorem dX3_lets_23 : decode cX3_lets 23 = .ok (.if_icmp .lt 7, 3) := dk_161 0 7 (dk_at dksX3_lets_1 0 rfl rfl)
theorem dX3_lets_26 : decode cX3_lets 26 = .ok (.iconst 1, 1) := dk_4 (dk_at dksX3_lets_1 3 rfl rfl)
theorem dX3_lets_27 : decode cX3_lets 27 = .ok (.goto 4, 3) := dk_167 0 4 (dk_at dksX3_lets_1 4 rfl rfl)
theorem dX3_lets_30 : decode cX3_lets 30 = .ok (.iconst 0, 1) := dk_3 (dk_at dksX3_lets_1 7 rfl rfl)
theorem dX3_lets_31 : decode cX3_lets 31 = .ok (.ireturn, 1) := dk_172 (dk_at dksX3_lets_1 8 rfl rfl)
theorem q102 : (Jvm.Cond.initialized "PumpCrossing$Law") ∈ lw_all := lw_g (lw_at lw_m1 6 rfl) rfl
theorem q187 : (Jvm.Cond.instantiable "PumpCrossing$Law" (5 : Nat)) ∈ lw_all := lw_g (lw_at lw_m1 91 rfl) rfl
theorem q189 : (Jvm.Cond.instanceMethod ({ cls := "PumpCrossing$Law", name := "<init>", desc := "()V" } : Jvm.MethodName)) ∈ lw_all := lw_g (lw_at lw_m1 93 rfl) rfl
theorem q190 : (Jvm.Cond.code ({ cls := "PumpCrossing$Law", name := "<init>", desc := "()V" } : Jvm.MethodName) prog_10_method_1_code (1 : Nat) (Option.none : Option Jvm.ClassFile.FieldType)) ∈ lw_all := lw_g (lw_at lw_m1 94 rfl) rfl
theorem q191 : (Jvm.Cond.methodLink "PumpCrossing$Law" (3 : Nat) ({ cls := "java/lang/Object", name := "<init>", desc := "()V" } : Jvm.MethodName)) ∈ lw_all := lw_g (lw_at lw_m1 95 rfl) rfl
theorem q193 : (Jvm.Cond.fieldLink "PumpCrossing$Law" (35 : Nat) "PumpCrossing$Law" "once" "I") ∈ lw_all := lw_g (lw_at lw_m1 97 rfl) rfl
theorem q195 : (Jvm.Cond.fieldLink "PumpCrossing$Law" (28 : Nat) "PumpCrossing$Law" "at" "I") ∈ lw_all := lw_g (lw_at lw_m1 99 rfl) rfl
theorem q196 : (Jvm.Cond.fieldLink "PumpCrossing$Law" (9 : Nat) "PumpCrossing$Law" "cap" "I") ∈ lw_all := lw_g (lw_at lw_m1 100 rfl) rfl
theorem q200 : (Jvm.Cond.fieldLink "PumpCrossing$Law" (21 : Nat) "PumpCrossing$Law" "isCost" "Z") ∈ lw_all := lw_g (lw_at lw_m1 104 rfl) rfl
theorem q202 : (Jvm.Cond.lays "PumpCrossing$Law" "PumpCrossing$Law" "once" "I") ∈ lw_all := lw_g (lw_at lw_m1 106 rfl) rfl
theorem q203 : (Jvm.Cond.soleField "PumpCrossing$Law" "once") ∈ lw_all := lw_g (lw_at lw_m1 107 rfl) rfl
theorem q204 : (Jvm.Cond.lays "PumpCrossing$Law" "PumpCrossing$Law" "at" "I") ∈ lw_all := lw_g (lw_at lw_m1 108 rfl) rfl
theorem q205 : (Jvm.Cond.soleField "PumpCrossing$Law" "at") ∈ lw_all := lw_g (lw_at lw_m1 109 rfl) rfl
theorem q206 : (Jvm.Cond.lays "PumpCrossing$Law" "PumpCrossing$Law" "cap" "I") ∈ lw_all := lw_g (lw_at lw_m1 110 rfl) rfl
theorem q207 : (Jvm.Cond.soleField "PumpCrossing$Law" "cap") ∈ lw_all := lw_g (lw_at lw_m1 111 rfl) rfl
theorem q208 : (Jvm.Cond.lays "PumpCrossing$Law" "PumpCrossing$Law" "isTold" "Z") ∈ lw_all := lw_g (lw_at lw_m1 112 rfl) rfl
theorem q209 : (Jvm.Cond.soleField "PumpCrossing$Law" "isTold") ∈ lw_all := lw_g (lw_at lw_m1 113 rfl) rfl
theorem q210 : (Jvm.Cond.lays "PumpCrossing$Law" "PumpCrossing$Law" "isCost" "Z") ∈ lw_all := lw_g (lw_at lw_m1 114 rfl) rfl
theorem q211 : (Jvm.Cond.soleField "PumpCrossing$Law" "isCost") ∈ lw_all := lw_g (lw_at lw_m1 115 rfl) rfl
theorem q212 : (Jvm.Cond.superclass "PumpCrossing$Law" "java/lang/Object") ∈ lw_all := lw_g (lw_at lw_m1 116 rfl) rfl
theorem q686 : (Jvm.Cond.selects "PumpCrossing$Law" ({ cls := "java/lang/Object", name := "getClass", desc := "()Ljava/lang/Class;" } : Jvm.MethodName) ({ cls := "java/lang/Object", name := "getClass", desc := "()Ljava/lang/Class;" } : Jvm.MethodName)) ∈ lw_all := lw_g (lw_at lw_m3 110 rfl) rfl
theorem q1403 : (Jvm.Cond.instanceMethod ({ cls := "PumpCrossing$Law", name := "bounded", desc := "(III)I" } : Jvm.MethodName)) ∈ lw_all := lw_g (lw_at lw_m6 107 rfl) rfl
theorem q1404 : (Jvm.Cond.selects "PumpCrossing$Law" ({ cls := "PumpCrossing$Law", name := "bounded", desc := "(III)I" } : Jvm.MethodName) ({ cls := "PumpCrossing$Law", name := "bounded", desc := "(III)I" } : Jvm.MethodName)) ∈ lw_all := lw_g (lw_at lw_m6 108 rfl) rfl
theorem q1405 : (Jvm.Cond.code ({ cls := "PumpCrossing$Law", name := "bounded", desc := "(III)I" } : Jvm.MethodName) prog_10_method_2_code (5 : Nat) (Option.some Jvm.ClassFile.FieldType.int)) ∈ lw_all := lw_g (lw_at lw_m6 109 rfl) rfl
theorem q1406 : (Jvm.Cond.methodLink "PumpCrossing$Law" (15 : Nat) ({ cls := "java/lang/Math", name := "min", desc := "(II)I" } : Jvm.MethodName)) ∈ lw_all := lw_g (lw_at lw_m6 110 rfl) rfl
theorem q1407 : (Jvm.Cond.methodLink "PumpCrossing$Law" (25 : Nat) ({ cls := "java/lang/Math", name := "max", desc := "(II)I" } : Jvm.MethodName)) ∈ lw_all := lw_g (lw_at lw_m6 111 rfl) rfl
theorem q1409 : (Jvm.Cond.instanceMethod ({ cls := "PumpCrossing$Law", name := "lets", desc := "(II)Z" } : Jvm.MethodName)) ∈ lw_all := lw_g (lw_at lw_m6 113 rfl) rfl
theorem q1410 : (Jvm.Cond.selects "PumpCrossing$Law" ({ cls := "PumpCrossing$Law", name := "lets", desc := "(II)Z" } : Jvm.MethodName) ({ cls := "PumpCrossing$Law", name := "lets", desc := "(II)Z" } : Jvm.MethodName)) ∈ lw_all := lw_g (lw_at lw_m6 114 rfl) rfl
theorem q1411 : (Jvm.Cond.code ({ cls := "PumpCrossing$Law", name := "lets", desc := "(II)Z" } : Jvm.MethodName) prog_10_method_3_code (3 : Nat) (Option.some Jvm.ClassFile.FieldType.boolean)) ∈ lw_all := lw_g (lw_at lw_m6 115 rfl) rfl
theorem q1412 : (Jvm.Cond.methodLinkNest "PumpCrossing$Law" (31 : Nat) ({ cls := "PumpCrossing", name := "has", desc := "(II)Z" } : Jvm.MethodName) "PumpCrossing") ∈ lw_tbl := lw_at lw_m6 116 rfl
theorem q2414 : (Jvm.Cond.castable "PumpCrossing$Law" "java/lang/Object") ∈ lw_tbl := lw_at lw_m10 158 rfl
theorem in_X3 : ∀ w ∈ wsX30, w ∈ lw_all := lw_in wsX30 [202, 204, 206, 208, 210] (by decide +kernel) (by decide +kernel)
/-! PumpCrossing$Run -/
set_option maxRecDepth 100000
def RX4 : String := "PumpCrossing$Run"
def TX4 : u_T := fun k => match k with
  | _ => ("PumpCrossing$Run", "this$0", "LPumpCrossing;", true)
def tyX4 : Nat → FieldType := fun k => match k with
  | _ => .object "PumpCrossing"
abbrev wsX40 : List Cond := u_ws RX4 TX4 1
theorem nmX4 : ∀ a, a < 1 → ∀ b, b < 1 → a ≠ b → (TX4 a).2.1 ≠ (TX4 b).2.1 := by decide +kernel
theorem tyX4_ok : ∀ k, k < 1 → parseFieldDescriptor (TX4 k).2.2.1 = some (tyX4 k) := by decide +kernel
abbrev cX4_init : ByteArray := prog_20_method_1_code
def yX4_init : MethodName := ⟨RX4, "<init>", "(LPumpCrossing;)V"⟩
def dkwX4_init_0 : List UInt8 := [42, 43, 181, 0, 3, 42, 183, 0, 9, 177]
abbrev dktX4_init_0 : List UInt8 := dkwX4_init_0 ++ []
theorem dksX4_init_0 : cX4_init.data.toList.drop 0 = dktX4_init_0 := by decide +kernel
theorem dX4_init_0 : decode cX4_init 0 = .ok (.aload_n 0, 1) := dk_42 (dk_at dksX4_init_0 0 rfl rfl)
theorem dX4_init_1 : decode cX4_init 1 = .ok (.aload_n 1, 1) := dk_43 (dk_at dksX4_init_0 1 rfl rfl)
theorem dX4_init_2 : decode cX4_init 2 = .ok (.putfield 3, 3) := dk_181 0 3 (dk_at dksX4_init_0 2 rfl rfl)
theorem dX4_init_5 : decode cX4_init 5 = .ok (.aload_n 0, 1) := dk_42 (dk_at dksX4_init_0 5 rfl rfl)
theorem dX4_init_6 : decode cX4_init 6 = .ok (.invokespecial 9, 3) := dk_183 0 9 (dk_at dksX4_init_0 6 rfl rfl)
theorem dX4_init_9 : decode cX4_init 9 = .ok (.return_, 1) := dk_177 (dk_at dksX4_init_0 9 rfl rfl)
abbrev cX4_at : ByteArray := prog_20_method_2_code
def yX4_at : MethodName := ⟨RX4, "at", "(II)I"⟩
def dkwX4_at_1 : List UInt8 := [167, 0, 15, 42, 180, 0, 3, 180, 0, 15, 27, 28, 182, 0, 37, 172]
abbrev dktX4_at_1 : List UInt8 := dkwX4_at_1 ++ []
def dkwX4_at_0 : List UInt8 := [28, 156, 0, 26, 42, 180, 0, 3, 180, 0, 15, 180, 0, 19, 27, 182, 0, 25, 192, 0, 31, 180, 0, 33]
abbrev dktX4_at_0 : List UInt8 := dkwX4_at_0 ++ dktX4_at_1
theorem dksX4_at_0 : cX4_at.data.toList.drop 0 = dktX4_at_0 := by decide +kernel
theorem dksX4_at_1 : cX4_at.data.toList.drop 24 = dktX4_at_1 := dk_seg dksX4_at_0 24 rfl rfl
theorem dX4_at_0 : decode cX4_at 0 = .ok (.iload_n 2, 1) := dk_28 (dk_at dksX4_at_0 0 rfl rfl)
theorem dX4_at_1 : decode cX4_at 1 = .ok (.ifCond .ge 26, 3) := dk_156 0 26 (dk_at dksX4_at_0 1 rfl rfl)
theorem dX4_at_4 : decode cX4_at 4 = .ok (.aload_n 0, 1) := dk_42 (dk_at dksX4_at_0 4 rfl rfl)
theorem dX4_at_5 : decode cX4_at 5 = .ok (.getfield 3, 3) := dk_180 0 3 (dk_at dksX4_at_0 5 rfl rfl)
theorem dX4_at_8 : decode cX4_at 8 = .ok (.getfield 15, 3) := dk_180 0 15 (dk_at dksX4_at_0 8 rfl rfl)
theorem dX4_at_11 : decode cX4_at 11 = .ok (.getfield 19, 3) := dk_180 0 19 (dk_at dksX4_at_0 11 rfl rfl)
theorem dX4_at_14 : decode cX4_at 14 = .ok (.iload_n 1, 1) := dk_27 (dk_at dksX4_at_0 14 rfl rfl)
theorem dX4_at_15 : decode cX4_at 15 = .ok (.invokevirtual 25, 3) := dk_182 0 25 (dk_at dksX4_at_0 15 rfl rfl)
theorem dX4_at_18 : decode cX4_at 18 = .ok (.checkcast 31, 3) := dk_192 0 31 (dk_at dksX4_at_0 18 rfl rfl)
theorem dX4_at_21 : decode cX4_at 21 = .ok (.getfield 33, 3) := dk_180 0 33 (dk_at dksX4_at_0 21 rfl rfl)
theorem dX4_at_24 : decode cX4_at 24 = .ok (.goto 15, 3) := dk_167 0 15 (dk_at dksX4_at_1 0 rfl rfl)
theorem dX4_at_27 : decode cX4_at 27 = .ok (.aload_n 0, 1) := dk_42 (dk_at dksX4_at_1 3 rfl rfl)
theorem dX4_at_28 : decode cX4_at 28 = .ok (.getfield 3, 3) := dk_180 0 3 (dk_at dksX4_at_1 4 rfl rfl)
theorem dX4_at_31 : decode cX4_at 31 = .ok (.getfield 15, 3) := dk_180 0 15 (dk_at dksX4_at_1 7 rfl rfl)
theorem dX4_at_34 : decode cX4_at 34 = .ok (.iload_n 1, 1) := dk_27 (dk_at dksX4_at_1 10 rfl rfl)
theorem dX4_at_35 : decode cX4_at 35 = .ok (.iload_n 2, 1) := dk_28 (dk_at dksX4_at_1 11 rfl rfl)
theorem dX4_at_36 : decode cX4_at 36 = .ok (.invokevirtual 37, 3) := dk_182 0 37 (dk_at dksX4_at_1 12 rfl rfl)
theorem dX4_at_39 : decode cX4_at 39 = .ok (.ireturn, 1) := dk_172 (dk_at dksX4_at_1 15 rfl rfl)
abbrev cX4_since : ByteArray := prog_20_method_3_code
def yX4_since : MethodName := ⟨RX4, "since", "(II)I"⟩
def dkwX4_since_1 : List UInt8 := [2, 160, 0, 9, 28, 4, 96, 167, 0, 6, 28, 29, 100, 184, 0, 44, 172]
abbrev dktX4_since_1 : List UInt8 := dkwX4_since_1 ++ []
def dkwX4_since_0 : List UInt8 := [42, 180, 0, 3, 180, 0, 15, 180, 0, 19, 27, 182, 0, 25, 192, 0, 31, 180, 0, 41, 62, 16, 99, 29]
abbrev dktX4_since_0 : List UInt8 := dkwX4_since_0 ++ dktX4_since_1
theorem dksX4_since_0 : cX4_since.data.toList.drop 0 = dktX4_since_0 := by decide +kernel
theorem dksX4_since_1 : cX4_since.data.toList.drop 24 = dktX4_since_1 := dk_seg dksX4_since_0 24 rfl rfl
theorem dX4_since_0 : decode cX4_since 0 = .ok (.aload_n 0, 1) := dk_42 (dk_at dksX4_since_0 0 rfl rfl)
theorem dX4_since_1 : decode cX4_since 1 = .ok (.getfield 3, 3) := dk_180 0 3 (dk_at dksX4_since_0 1 rfl rfl)
theorem dX4_since_4 : decode cX4_since 4 = .ok (.getfield 15, 3) := dk_180 0 15 (dk_at dksX4_since_0 4 rfl rfl)
theorem dX4_since_7 : decode cX4_since 7 = .ok (.getfield 19, 3) := dk_180 0 19 (dk_at dksX4_since_0 7 rfl rfl)
theorem dX4_since_10 : decode cX4_since 10 = .ok (.iload_n 1, 1) := dk_27 (dk_at dksX4_since_0 10 rfl rfl)
theorem dX4_since_11 : decode cX4_since 11 = .ok (.invokevirtual 25, 3) := dk_182 0 25 (dk_at dksX4_since_0 11 rfl rfl)
theorem dX4_since_14 : decode cX4_since 14 = .ok (.checkcast 31, 3) := dk_192 0 31 (dk_at dksX4_since_0 14 rfl rfl)
theorem dX4_since_17 : decode cX4_since 17 = .ok (.getfield 41, 3) := dk_180 0 41 (dk_at dksX4_since_0 17 rfl rfl)
theorem dX4_since_20 : decode cX4_since 20 = .ok (.istore_n 3, 1) := dk_62 (dk_at dksX4_since_0 20 rfl rfl)
theorem dX4_since_21 : decode cX4_since 21 = .ok (.bipush 99, 2) := dk_16 99 (dk_at dksX4_since_0 21 rfl rfl)
theorem dX4_since_23 : decode cX4_since 23 = .ok (.iload_n 3, 1) := dk_29 (dk_at dksX4_since_0 23 rfl rfl)
theorem dX4_since_24 : decode cX4_since 24 = .ok (.iconst (-1), 1) := dk_2 (dk_at dksX4_since_1 0 rfl rfl)
theorem dX4_since_25 : decode cX4_since 25 = .ok (.if_icmp .ne 9, 3) := dk_160 0 9 (dk_at dksX4_since_1 1 rfl rfl)
theorem dX4_since_28 : decode cX4_since 28 = .ok (.iload_n 2, 1) := dk_28 (dk_at dksX4_since_1 4 rfl rfl)
theorem dX4_since_29 : decode cX4_since 29 = .ok (.iconst 1, 1) := dk_4 (dk_at dksX4_since_1 5 rfl rfl)
theorem dX4_since_30 : decode cX4_since 30 = .ok (.iadd, 1) := dk_96 (dk_at dksX4_since_1 6 rfl rfl)
theorem dX4_since_31 : decode cX4_since 31 = .ok (.goto 6, 3) := dk_167 0 6 (dk_at dksX4_since_1 7 rfl rfl)
theorem dX4_since_34 : decode cX4_since 34 = .ok (.iload_n 2, 1) := dk_28 (dk_at dksX4_since_1 10 rfl rfl)
theorem dX4_since_35 : decode cX4_since 35 = .ok (.iload_n 3, 1) := dk_29 (dk_at dksX4_since_1 11 rfl rfl)
theorem dX4_since_36 : decode cX4_since 36 = .ok (.isub, 1) := dk_100 (dk_at dksX4_since_1 12 rfl rfl)
theorem dX4_since_37 : decode cX4_since 37 = .ok (.invokestatic 44, 3) := dk_184 0 44 (dk_at dksX4_since_1 13 rfl rfl)
theorem dX4_since_40 : decode cX4_since 40 = .ok (.ireturn, 1) := dk_172 (dk_at dksX4_since_1 16 rfl rfl)
theorem q103 : (Jvm.Cond.initialized "PumpCrossing$Run") ∈ lw_all := lw_g (lw_at lw_m1 7 rfl) rfl
theorem q218 : (Jvm.Cond.fieldLinkNest "PumpCrossing$Run" (19 : Nat) "PumpCrossing$Crossing" "stations" "Ljava/util/ArrayList;" "PumpCrossing") ∈ lw_tbl := lw_at lw_m1 122 rfl
theorem q273 : (Jvm.Cond.instantiable "PumpCrossing$Run" (1 : Nat)) ∈ lw_all := lw_g (lw_at lw_m1 177 rfl) rfl
theorem q275 : (Jvm.Cond.instanceMethod ({ cls := "PumpCrossing$Run", name := "<init>", desc := "(LPumpCrossing;)V" } : Jvm.MethodName)) ∈ lw_all := lw_g (lw_at lw_m1 179 rfl) rfl
theorem q276 : (Jvm.Cond.code ({ cls := "PumpCrossing$Run", name := "<init>", desc := "(LPumpCrossing;)V" } : Jvm.MethodName) prog_20_method_1_code (2 : Nat) (Option.none : Option Jvm.ClassFile.FieldType)) ∈ lw_all := lw_g (lw_at lw_m1 180 rfl) rfl
theorem q277 : (Jvm.Cond.methodLink "PumpCrossing$Run" (9 : Nat) ({ cls := "java/lang/Object", name := "<init>", desc := "()V" } : Jvm.MethodName)) ∈ lw_all := lw_g (lw_at lw_m1 181 rfl) rfl
theorem q278 : (Jvm.Cond.fieldLink "PumpCrossing$Run" (3 : Nat) "PumpCrossing$Run" "this$0" "LPumpCrossing;") ∈ lw_all := lw_g (lw_at lw_m1 182 rfl) rfl
theorem q279 : (Jvm.Cond.laysFinal "PumpCrossing$Run" "PumpCrossing$Run" "this$0" "LPumpCrossing;") ∈ lw_all := lw_g (lw_at lw_m1 183 rfl) rfl
theorem q280 : (Jvm.Cond.soleField "PumpCrossing$Run" "this$0") ∈ lw_all := lw_g (lw_at lw_m1 184 rfl) rfl
theorem q281 : (Jvm.Cond.superclass "PumpCrossing$Run" "java/lang/Object") ∈ lw_all := lw_g (lw_at lw_m1 185 rfl) rfl
theorem q335 : (Jvm.Cond.fieldLinkNest "PumpCrossing$Run" (15 : Nat) "PumpCrossing" "now" "LPumpCrossing$Crossing;" "PumpCrossing") ∈ lw_tbl := lw_at lw_m1 239 rfl
theorem q618 : (Jvm.Cond.fieldLinkNest "PumpCrossing$Run" (41 : Nat) "PumpCrossing$Station" "changed" "I" "PumpCrossing") ∈ lw_tbl := lw_at lw_m3 42 rfl
theorem q621 : (Jvm.Cond.fieldLinkNest "PumpCrossing$Run" (33 : Nat) "PumpCrossing$Station" "first" "I" "PumpCrossing") ∈ lw_tbl := lw_at lw_m3 45 rfl
theorem q693 : (Jvm.Cond.selects "PumpCrossing$Run" ({ cls := "java/lang/Object", name := "getClass", desc := "()Ljava/lang/Class;" } : Jvm.MethodName) ({ cls := "java/lang/Object", name := "getClass", desc := "()Ljava/lang/Class;" } : Jvm.MethodName)) ∈ lw_all := lw_g (lw_at lw_m3 117 rfl) rfl
theorem q1308 : (Jvm.Cond.castable "PumpCrossing$Run" "PumpCrossing$Past") ∈ lw_tbl := lw_at lw_m6 12 rfl
theorem q1309 : (Jvm.Cond.selects "PumpCrossing$Run" ({ cls := "PumpCrossing$Past", name := "at", desc := "(II)I" } : Jvm.MethodName) ({ cls := "PumpCrossing$Run", name := "at", desc := "(II)I" } : Jvm.MethodName)) ∈ lw_all := lw_g (lw_at lw_m6 13 rfl) rfl
theorem q1310 : (Jvm.Cond.unhidden "PumpCrossing$Run" "at" "(II)I") ∈ lw_tbl := lw_at lw_m6 14 rfl
theorem q1311 : (Jvm.Cond.instanceMethod ({ cls := "PumpCrossing$Run", name := "at", desc := "(II)I" } : Jvm.MethodName)) ∈ lw_all := lw_g (lw_at lw_m6 15 rfl) rfl
theorem q1312 : (Jvm.Cond.publicMethod ({ cls := "PumpCrossing$Run", name := "at", desc := "(II)I" } : Jvm.MethodName)) ∈ lw_tbl := lw_at lw_m6 16 rfl
theorem q1313 : (Jvm.Cond.code ({ cls := "PumpCrossing$Run", name := "at", desc := "(II)I" } : Jvm.MethodName) prog_20_method_2_code (3 : Nat) (Option.some Jvm.ClassFile.FieldType.int)) ∈ lw_all := lw_g (lw_at lw_m6 17 rfl) rfl
theorem q1314 : (Jvm.Cond.methodLink "PumpCrossing$Run" (25 : Nat) ({ cls := "java/util/ArrayList", name := "get", desc := "(I)Ljava/lang/Object;" } : Jvm.MethodName)) ∈ lw_all := lw_g (lw_at lw_m6 18 rfl) rfl
theorem q1315 : (Jvm.Cond.classLink "PumpCrossing$Run" (31 : Nat) "PumpCrossing$Station") ∈ lw_all := lw_g (lw_at lw_m6 19 rfl) rfl
theorem q1316 : (Jvm.Cond.methodLink "PumpCrossing$Run" (37 : Nat) ({ cls := "PumpCrossing$Crossing", name := "at", desc := "(II)I" } : Jvm.MethodName)) ∈ lw_all := lw_g (lw_at lw_m6 20 rfl) rfl
theorem q1331 : (Jvm.Cond.selects "PumpCrossing$Run" ({ cls := "PumpCrossing$Past", name := "since", desc := "(II)I" } : Jvm.MethodName) ({ cls := "PumpCrossing$Run", name := "since", desc := "(II)I" } : Jvm.MethodName)) ∈ lw_all := lw_g (lw_at lw_m6 35 rfl) rfl
theorem q1332 : (Jvm.Cond.unhidden "PumpCrossing$Run" "since" "(II)I") ∈ lw_tbl := lw_at lw_m6 36 rfl
theorem q1333 : (Jvm.Cond.instanceMethod ({ cls := "PumpCrossing$Run", name := "since", desc := "(II)I" } : Jvm.MethodName)) ∈ lw_all := lw_g (lw_at lw_m6 37 rfl) rfl
theorem q1334 : (Jvm.Cond.publicMethod ({ cls := "PumpCrossing$Run", name := "since", desc := "(II)I" } : Jvm.MethodName)) ∈ lw_tbl := lw_at lw_m6 38 rfl
theorem q1335 : (Jvm.Cond.code ({ cls := "PumpCrossing$Run", name := "since", desc := "(II)I" } : Jvm.MethodName) prog_20_method_3_code (4 : Nat) (Option.some Jvm.ClassFile.FieldType.int)) ∈ lw_all := lw_g (lw_at lw_m6 39 rfl) rfl
theorem q1336 : (Jvm.Cond.methodLink "PumpCrossing$Run" (44 : Nat) ({ cls := "java/lang/Math", name := "min", desc := "(II)I" } : Jvm.MethodName)) ∈ lw_all := lw_g (lw_at lw_m6 40 rfl) rfl
theorem q2407 : (Jvm.Cond.selects "PumpCrossing$Run" ({ cls := "PumpCrossing$Run", name := "since", desc := "(II)I" } : Jvm.MethodName) ({ cls := "PumpCrossing$Run", name := "since", desc := "(II)I" } : Jvm.MethodName)) ∈ lw_all := lw_g (lw_at lw_m10 151 rfl) rfl
theorem q2415 : (Jvm.Cond.castable "PumpCrossing$Run" "java/lang/Object") ∈ lw_tbl := lw_at lw_m10 159 rfl
theorem in_X4 : ∀ w ∈ wsX40, w ∈ lw_all := lw_in wsX40 [279] (by decide +kernel) (by decide +kernel)
/-! PumpCrossing$Told -/
set_option maxRecDepth 100000
def RX5 : String := "PumpCrossing$Told"
def TX5 : u_T := fun k => match k with
  | _ => ("PumpCrossing$Told", "this$0", "LPumpCrossing;", true)
def tyX5 : Nat → FieldType := fun k => match k with
  | _ => .object "PumpCrossing"
abbrev wsX50 : List Cond := u_ws RX5 TX5 1
theorem nmX5 : ∀ a, a < 1 → ∀ b, b < 1 → a ≠ b → (TX5 a).2.1 ≠ (TX5 b).2.1 := by decide +kernel
theorem tyX5_ok : ∀ k, k < 1 → parseFieldDescriptor (TX5 k).2.2.1 = some (tyX5 k) := by decide +kernel
abbrev cX5_init : ByteArray := prog_24_method_1_code
def yX5_init : MethodName := ⟨RX5, "<init>", "(LPumpCrossing;)V"⟩
def dkwX5_init_0 : List UInt8 := [42, 43, 181, 0, 3, 42, 183, 0, 9, 177]
abbrev dktX5_init_0 : List UInt8 := dkwX5_init_0 ++ []
theorem dksX5_init_0 : cX5_init.data.toList.drop 0 = dktX5_init_0 := by decide +kernel
theorem dX5_init_0 : decode cX5_init 0 = .ok (.aload_n 0, 1) := dk_42 (dk_at dksX5_init_0 0 rfl rfl)
theorem dX5_init_1 : decode cX5_init 1 = .ok (.aload_n 1, 1) := dk_43 (dk_at dksX5_init_0 1 rfl rfl)
theorem dX5_init_2 : decode cX5_init 2 = .ok (.putfield 3, 3) := dk_181 0 3 (dk_at dksX5_init_0 2 rfl rfl)
theorem dX5_init_5 : decode cX5_init 5 = .ok (.aload_n 0, 1) := dk_42 (dk_at dksX5_init_0 5 rfl rfl)
theorem dX5_init_6 : decode cX5_init 6 = .ok (.invokespecial 9, 3) := dk_183 0 9 (dk_at dksX5_init_0 6 rfl rfl)
theorem dX5_init_9 : decode cX5_init 9 = .ok (.return_, 1) := dk_177 (dk_at dksX5_init_0 9 rfl rfl)
abbrev cX5_at : ByteArray := prog_24_method_2_code
def yX5_at : MethodName := ⟨RX5, "at", "(II)I"⟩
def dkwX5_at_0 : List UInt8 := [42, 180, 0, 3, 180, 0, 15, 180, 0, 19, 3, 28, 184, 0, 25, 182, 0, 31, 192, 0, 37, 27, 46, 172]
abbrev dktX5_at_0 : List UInt8 := dkwX5_at_0 ++ []
theorem dksX5_at_0 : cX5_at.data.toList.drop 0 = dktX5_at_0 := by decide +kernel
theorem dX5_at_0 : decode cX5_at 0 = .ok (.aload_n 0, 1) := dk_42 (dk_at dksX5_at_0 0 rfl rfl)
theorem dX5_at_1 : decode cX5_at 1 = .ok (.getfield 3, 3) := dk_180 0 3 (dk_at dksX5_at_0 1 rfl rfl)
theorem dX5_at_4 : decode cX5_at 4 = .ok (.getfield 15, 3) := dk_180 0 15 (dk_at dksX5_at_0 4 rfl rfl)
theorem dX5_at_7 : decode cX5_at 7 = .ok (.getfield 19, 3) := dk_180 0 19 (dk_at dksX5_at_0 7 rfl rfl)
theorem dX5_at_10 : decode cX5_at 10 = .ok (.iconst 0, 1) := dk_3 (dk_at dksX5_at_0 10 rfl rfl)
theorem dX5_at_11 : decode cX5_at 11 = .ok (.iload_n 2, 1) := dk_28 (dk_at dksX5_at_0 11 rfl rfl)
theorem dX5_at_12 : decode cX5_at 12 = .ok (.invokestatic 25, 3) := dk_184 0 25 (dk_at dksX5_at_0 12 rfl rfl)
theorem dX5_at_15 : decode cX5_at 15 = .ok (.invokevirtual 31, 3) := dk_182 0 31 (dk_at dksX5_at_0 15 rfl rfl)
theorem dX5_at_18 : decode cX5_at 18 = .ok (.checkcast 37, 3) := dk_192 0 37 (dk_at dksX5_at_0 18 rfl rfl)
theorem dX5_at_21 : decode cX5_at 21 = .ok (.iload_n 1, 1) := dk_27 (dk_at dksX5_at_0 21 rfl rfl)
theorem dX5_at_22 : decode cX5_at 22 = .ok (.iaload, 1) := dk_46 (dk_at dksX5_at_0 22 rfl rfl)
theorem dX5_at_23 : decode cX5_at 23 = .ok (.ireturn, 1) := dk_172 (dk_at dksX5_at_0 23 rfl rfl)
abbrev cX5_since : ByteArray := prog_24_method_3_code
def yX5_since : MethodName := ⟨RX5, "since", "(II)I"⟩
def dkwX5_since_2 : List UInt8 := [184, 0, 42, 172]
abbrev dktX5_since_2 : List UInt8 := dkwX5_since_2 ++ []
def dkwX5_since_1 : List UInt8 := [160, 0, 9, 132, 3, 255, 167, 255, 232, 16, 99, 29, 157, 0, 9, 28, 4, 96, 167, 0, 6, 28, 29, 100]
abbrev dktX5_since_1 : List UInt8 := dkwX5_since_1 ++ dktX5_since_2
def dkwX5_since_0 : List UInt8 := [28, 4, 100, 62, 29, 158, 0, 26, 42, 27, 29, 182, 0, 39, 42, 27, 29, 4, 100, 182, 0, 39]
abbrev dktX5_since_0 : List UInt8 := dkwX5_since_0 ++ dktX5_since_1
theorem dksX5_since_0 : cX5_since.data.toList.drop 0 = dktX5_since_0 := by decide +kernel
theorem dksX5_since_1 : cX5_since.data.toList.drop 22 = dktX5_since_1 := dk_seg dksX5_since_0 22 rfl rfl
theorem dksX5_since_2 : cX5_since.data.toList.drop 46 = dktX5_since_2 := dk_seg dksX5_since_1 24 rfl rfl
theorem dX5_since_0 : decode cX5_since 0 = .ok (.iload_n 2, 1) := dk_28 (dk_at dksX5_since_0 0 rfl rfl)
theorem dX5_since_1 : decode cX5_since 1 = .ok (.iconst 1, 1) := dk_4 (dk_at dksX5_since_0 1 rfl rfl)
theorem dX5_since_2 : decode cX5_since 2 = .ok (.isub, 1) := dk_100 (dk_at dksX5_since_0 2 rfl rfl)
theorem dX5_since_3 : decode cX5_since 3 = .ok (.istore_n 3, 1) := dk_62 (dk_at dksX5_since_0 3 rfl rfl)
theorem dX5_since_4 : decode cX5_since 4 = .ok (.iload_n 3, 1) := dk_29 (dk_at dksX5_since_0 4 rfl rfl)
theorem dX5_since_5 : decode cX5_since 5 = .ok (.ifCond .le 26, 3) := dk_158 0 26 (dk_at dksX5_since_0 5 rfl rfl)
theorem dX5_since_8 : decode cX5_since 8 = .ok (.aload_n 0, 1) := dk_42 (dk_at dksX5_since_0 8 rfl rfl)
theorem dX5_since_9 : decode cX5_since 9 = .ok (.iload_n 1, 1) := dk_27 (dk_at dksX5_since_0 9 rfl rfl)
theorem dX5_since_10 : decode cX5_since 10 = .ok (.iload_n 3, 1) := dk_29 (dk_at dksX5_since_0 10 rfl rfl)
theorem dX5_since_11 : decode cX5_since 11 = .ok (.invokevirtual 39, 3) := dk_182 0 39 (dk_at dksX5_since_0 11 rfl rfl)
theorem dX5_since_14 : decode cX5_since 14 = .ok (.aload_n 0, 1) := dk_42 (dk_at dksX5_since_0 14 rfl rfl)
theorem dX5_since_15 : decode cX5_since 15 = .ok (.iload_n 1, 1) := dk_27 (dk_at dksX5_since_0 15 rfl rfl)
theorem dX5_since_16 : decode cX5_since 16 = .ok (.iload_n 3, 1) := dk_29 (dk_at dksX5_since_0 16 rfl rfl)
theorem dX5_since_17 : decode cX5_since 17 = .ok (.iconst 1, 1) := dk_4 (dk_at dksX5_since_0 17 rfl rfl)
theorem dX5_since_18 : decode cX5_since 18 = .ok (.isub, 1) := dk_100 (dk_at dksX5_since_0 18 rfl rfl)
theorem dX5_since_19 : decode cX5_since 19 = .ok (.invokevirtual 39, 3) := dk_182 0 39 (dk_at dksX5_since_0 19 rfl rfl)
theorem dX5_since_22 : decode cX5_since 22 = .ok (.if_icmp .ne 9, 3) := dk_160 0 9 (dk_at dksX5_since_1 0 rfl rfl)
theorem dX5_since_25 : decode cX5_since 25 = .ok (.iinc 3 (-1), 3) := dk_132 3 255 (dk_at dksX5_since_1 3 rfl rfl)
theorem dX5_since_28 : decode cX5_since 28 = .ok (.goto (-24), 3) := dk_167 255 232 (dk_at dksX5_since_1 6 rfl rfl)
theorem dX5_since_31 : decode cX5_since 31 = .ok (.bipush 99, 2) := dk_16 99 (dk_at dksX5_since_1 9 rfl rfl)
theorem dX5_since_33 : decode cX5_since 33 = .ok (.iload_n 3, 1) := dk_29 (dk_at dksX5_since_1 11 rfl rfl)
theorem dX5_since_34 : decode cX5_since 34 = .ok (.ifCond .gt 9, 3) := dk_157 0 9 (dk_at dksX5_since_1 12 rfl rfl)
theorem dX5_since_37 : decode cX5_since 37 = .ok (.iload_n 2, 1) := dk_28 (dk_at dksX5_since_1 15 rfl rfl)
theorem dX5_since_38 : decode cX5_since 38 = .ok (.iconst 1, 1) := dk_4 (dk_at dksX5_since_1 16 rfl rfl)
theorem dX5_since_39 : decode cX5_since 39 = .ok (.iadd, 1) := dk_96 (dk_at dksX5_since_1 17 rfl rfl)
theorem dX5_since_40 : decode cX5_since 40 = .ok (.goto 6, 3) := dk_167 0 6 (dk_at dksX5_since_1 18 rfl rfl)
theorem dX5_since_43 : decode cX5_since 43 = .ok (.iload_n 2, 1) := dk_28 (dk_at dksX5_since_1 21 rfl rfl)
theorem dX5_since_44 : decode cX5_since 44 = .ok (.iload_n 3, 1) := dk_29 (dk_at dksX5_since_1 22 rfl rfl)
theorem dX5_since_45 : decode cX5_since 45 = .ok (.isub, 1) := dk_100 (dk_at dksX5_since_1 23 rfl rfl)
theorem dX5_since_46 : decode cX5_since 46 = .ok (.invokestatic 42, 3) := dk_184 0 42 (dk_at dksX5_since_2 0 rfl rfl)
theorem dX5_since_49 : decode cX5_since 49 = .ok (.ireturn, 1) := dk_172 (dk_at dksX5_since_2 3 rfl rfl)
theorem q104 : (Jvm.Cond.initialized "PumpCrossing$Told") ∈ lw_all := lw_g (lw_at lw_m1 8 rfl) rfl
theorem q227 : (Jvm.Cond.fieldLinkNest "PumpCrossing$Told" (19 : Nat) "PumpCrossing$Crossing" "told" "Ljava/util/ArrayList;" "PumpCrossing") ∈ lw_tbl := lw_at lw_m1 131 rfl
theorem q283 : (Jvm.Cond.instantiable "PumpCrossing$Told" (1 : Nat)) ∈ lw_all := lw_g (lw_at lw_m1 187 rfl) rfl
theorem q285 : (Jvm.Cond.instanceMethod ({ cls := "PumpCrossing$Told", name := "<init>", desc := "(LPumpCrossing;)V" } : Jvm.MethodName)) ∈ lw_all := lw_g (lw_at lw_m1 189 rfl) rfl
theorem q286 : (Jvm.Cond.code ({ cls := "PumpCrossing$Told", name := "<init>", desc := "(LPumpCrossing;)V" } : Jvm.MethodName) prog_24_method_1_code (2 : Nat) (Option.none : Option Jvm.ClassFile.FieldType)) ∈ lw_all := lw_g (lw_at lw_m1 190 rfl) rfl
theorem q287 : (Jvm.Cond.methodLink "PumpCrossing$Told" (9 : Nat) ({ cls := "java/lang/Object", name := "<init>", desc := "()V" } : Jvm.MethodName)) ∈ lw_all := lw_g (lw_at lw_m1 191 rfl) rfl
theorem q288 : (Jvm.Cond.fieldLink "PumpCrossing$Told" (3 : Nat) "PumpCrossing$Told" "this$0" "LPumpCrossing;") ∈ lw_all := lw_g (lw_at lw_m1 192 rfl) rfl
theorem q289 : (Jvm.Cond.laysFinal "PumpCrossing$Told" "PumpCrossing$Told" "this$0" "LPumpCrossing;") ∈ lw_all := lw_g (lw_at lw_m1 193 rfl) rfl
theorem q290 : (Jvm.Cond.soleField "PumpCrossing$Told" "this$0") ∈ lw_all := lw_g (lw_at lw_m1 194 rfl) rfl
theorem q291 : (Jvm.Cond.superclass "PumpCrossing$Told" "java/lang/Object") ∈ lw_all := lw_g (lw_at lw_m1 195 rfl) rfl
theorem q334 : (Jvm.Cond.fieldLinkNest "PumpCrossing$Told" (15 : Nat) "PumpCrossing" "now" "LPumpCrossing$Crossing;" "PumpCrossing") ∈ lw_tbl := lw_at lw_m1 238 rfl
theorem q696 : (Jvm.Cond.selects "PumpCrossing$Told" ({ cls := "java/lang/Object", name := "getClass", desc := "()Ljava/lang/Class;" } : Jvm.MethodName) ({ cls := "java/lang/Object", name := "getClass", desc := "()Ljava/lang/Class;" } : Jvm.MethodName)) ∈ lw_all := lw_g (lw_at lw_m3 120 rfl) rfl
theorem q1317 : (Jvm.Cond.castable "PumpCrossing$Told" "PumpCrossing$Past") ∈ lw_tbl := lw_at lw_m6 21 rfl
theorem q1318 : (Jvm.Cond.selects "PumpCrossing$Told" ({ cls := "PumpCrossing$Past", name := "at", desc := "(II)I" } : Jvm.MethodName) ({ cls := "PumpCrossing$Told", name := "at", desc := "(II)I" } : Jvm.MethodName)) ∈ lw_all := lw_g (lw_at lw_m6 22 rfl) rfl
theorem q1319 : (Jvm.Cond.unhidden "PumpCrossing$Told" "at" "(II)I") ∈ lw_tbl := lw_at lw_m6 23 rfl
theorem q1320 : (Jvm.Cond.instanceMethod ({ cls := "PumpCrossing$Told", name := "at", desc := "(II)I" } : Jvm.MethodName)) ∈ lw_all := lw_g (lw_at lw_m6 24 rfl) rfl
theorem q1321 : (Jvm.Cond.publicMethod ({ cls := "PumpCrossing$Told", name := "at", desc := "(II)I" } : Jvm.MethodName)) ∈ lw_tbl := lw_at lw_m6 25 rfl
theorem q1322 : (Jvm.Cond.code ({ cls := "PumpCrossing$Told", name := "at", desc := "(II)I" } : Jvm.MethodName) prog_24_method_2_code (3 : Nat) (Option.some Jvm.ClassFile.FieldType.int)) ∈ lw_all := lw_g (lw_at lw_m6 26 rfl) rfl
theorem q1323 : (Jvm.Cond.methodLink "PumpCrossing$Told" (25 : Nat) ({ cls := "java/lang/Math", name := "max", desc := "(II)I" } : Jvm.MethodName)) ∈ lw_all := lw_g (lw_at lw_m6 27 rfl) rfl
theorem q1324 : (Jvm.Cond.methodLink "PumpCrossing$Told" (31 : Nat) ({ cls := "java/util/ArrayList", name := "get", desc := "(I)Ljava/lang/Object;" } : Jvm.MethodName)) ∈ lw_all := lw_g (lw_at lw_m6 28 rfl) rfl
theorem q1325 : (Jvm.Cond.classLink "PumpCrossing$Told" (37 : Nat) "[I") ∈ lw_all := lw_g (lw_at lw_m6 29 rfl) rfl
theorem q1337 : (Jvm.Cond.selects "PumpCrossing$Told" ({ cls := "PumpCrossing$Past", name := "since", desc := "(II)I" } : Jvm.MethodName) ({ cls := "PumpCrossing$Told", name := "since", desc := "(II)I" } : Jvm.MethodName)) ∈ lw_all := lw_g (lw_at lw_m6 41 rfl) rfl
theorem q1338 : (Jvm.Cond.unhidden "PumpCrossing$Told" "since" "(II)I") ∈ lw_tbl := lw_at lw_m6 42 rfl
theorem q1339 : (Jvm.Cond.instanceMethod ({ cls := "PumpCrossing$Told", name := "since", desc := "(II)I" } : Jvm.MethodName)) ∈ lw_all := lw_g (lw_at lw_m6 43 rfl) rfl
theorem q1340 : (Jvm.Cond.publicMethod ({ cls := "PumpCrossing$Told", name := "since", desc := "(II)I" } : Jvm.MethodName)) ∈ lw_tbl := lw_at lw_m6 44 rfl
theorem q1341 : (Jvm.Cond.code ({ cls := "PumpCrossing$Told", name := "since", desc := "(II)I" } : Jvm.MethodName) prog_24_method_3_code (4 : Nat) (Option.some Jvm.ClassFile.FieldType.int)) ∈ lw_all := lw_g (lw_at lw_m6 45 rfl) rfl
theorem q1342 : (Jvm.Cond.methodLink "PumpCrossing$Told" (39 : Nat) ({ cls := "PumpCrossing$Told", name := "at", desc := "(II)I" } : Jvm.MethodName)) ∈ lw_all := lw_g (lw_at lw_m6 46 rfl) rfl
theorem q1343 : (Jvm.Cond.methodLink "PumpCrossing$Told" (42 : Nat) ({ cls := "java/lang/Math", name := "min", desc := "(II)I" } : Jvm.MethodName)) ∈ lw_all := lw_g (lw_at lw_m6 47 rfl) rfl
theorem q2406 : (Jvm.Cond.selects "PumpCrossing$Told" ({ cls := "PumpCrossing$Told", name := "at", desc := "(II)I" } : Jvm.MethodName) ({ cls := "PumpCrossing$Told", name := "at", desc := "(II)I" } : Jvm.MethodName)) ∈ lw_all := lw_g (lw_at lw_m10 150 rfl) rfl
theorem q2416 : (Jvm.Cond.castable "PumpCrossing$Told" "java/lang/Object") ∈ lw_tbl := lw_at lw_m10 160 rfl
theorem in_X5 : ∀ w ∈ wsX50, w ∈ lw_all := lw_in wsX50 [289] (by decide +kernel) (by decide +kernel)
/-! PumpCrossing$Learners -/
set_option maxRecDepth 100000
def RX6 : String := "PumpCrossing$Learners"
def TX6 : u_T := fun k => match k with
  | 0 => ("PumpCrossing$Learners", "tableA", "[[I", true)
  | 1 => ("PumpCrossing$Learners", "tableB", "[[I", true)
  | 2 => ("PumpCrossing$Learners", "x", "I", false)
  | 3 => ("PumpCrossing$Learners", "atA", "I", false)
  | 4 => ("PumpCrossing$Learners", "atB", "I", false)
  | _ => ("PumpCrossing$Learners", "this$0", "LPumpCrossing;", true)
def tyX6 : Nat → FieldType := fun k => match k with
  | 0 => .array (.array .int)
  | 1 => .array (.array .int)
  | 2 => .int
  | 3 => .int
  | 4 => .int
  | _ => .object "PumpCrossing"
abbrev wsX60 : List Cond := u_ws RX6 TX6 6
theorem nmX6 : ∀ a, a < 6 → ∀ b, b < 6 → a ≠ b → (TX6 a).2.1 ≠ (TX6 b).2.1 := by decide +kernel
theorem tyX6_ok : ∀ k, k < 6 → parseFieldDescriptor (TX6 k).2.2.1 = some (tyX6 k) := by decide +kernel
abbrev cX6_init : ByteArray := prog_12_method_1_code
def yX6_init : MethodName := ⟨RX6, "<init>", "(LPumpCrossing;)V"⟩
def dkwX6_init_1 : List UInt8 := [16, 8, 197, 0, 15, 2, 181, 0, 20, 177]
abbrev dktX6_init_1 : List UInt8 := dkwX6_init_1 ++ []
def dkwX6_init_0 : List UInt8 := [42, 43, 181, 0, 3, 42, 183, 0, 9, 42, 16, 8, 16, 8, 197, 0, 15, 2, 181, 0, 17, 42, 16, 8]
abbrev dktX6_init_0 : List UInt8 := dkwX6_init_0 ++ dktX6_init_1
theorem dksX6_init_0 : cX6_init.data.toList.drop 0 = dktX6_init_0 := by decide +kernel
theorem dksX6_init_1 : cX6_init.data.toList.drop 24 = dktX6_init_1 := dk_seg dksX6_init_0 24 rfl rfl
theorem dX6_init_0 : decode cX6_init 0 = .ok (.aload_n 0, 1) := dk_42 (dk_at dksX6_init_0 0 rfl rfl)
theorem dX6_init_1 : decode cX6_init 1 = .ok (.aload_n 1, 1) := dk_43 (dk_at dksX6_init_0 1 rfl rfl)
theorem dX6_init_2 : decode cX6_init 2 = .ok (.putfield 3, 3) := dk_181 0 3 (dk_at dksX6_init_0 2 rfl rfl)
theorem dX6_init_5 : decode cX6_init 5 = .ok (.aload_n 0, 1) := dk_42 (dk_at dksX6_init_0 5 rfl rfl)
theorem dX6_init_6 : decode cX6_init 6 = .ok (.invokespecial 9, 3) := dk_183 0 9 (dk_at dksX6_init_0 6 rfl rfl)
theorem dX6_init_9 : decode cX6_init 9 = .ok (.aload_n 0, 1) := dk_42 (dk_at dksX6_init_0 9 rfl rfl)
theorem dX6_init_10 : decode cX6_init 10 = .ok (.bipush 8, 2) := dk_16 8 (dk_at dksX6_init_0 10 rfl rfl)
theorem dX6_init_12 : decode cX6_init 12 = .ok (.bipush 8, 2) := dk_16 8 (dk_at dksX6_init_0 12 rfl rfl)
theorem dX6_init_14 : decode cX6_init 14 = .ok (.multianewarray 15 2, 4) := by decide +kernel
theorem dX6_init_18 : decode cX6_init 18 = .ok (.putfield 17, 3) := dk_181 0 17 (dk_at dksX6_init_0 18 rfl rfl)
theorem dX6_init_21 : decode cX6_init 21 = .ok (.aload_n 0, 1) := dk_42 (dk_at dksX6_init_0 21 rfl rfl)
theorem dX6_init_22 : decode cX6_init 22 = .ok (.bipush 8, 2) := dk_16 8 (dk_at dksX6_init_0 22 rfl rfl)
theorem dX6_init_24 : decode cX6_init 24 = .ok (.bipush 8, 2) := dk_16 8 (dk_at dksX6_init_1 0 rfl rfl)
theorem dX6_init_26 : decode cX6_init 26 = .ok (.multianewarray 15 2, 4) := by decide +kernel
theorem dX6_init_30 : decode cX6_init 30 = .ok (.putfield 20, 3) := dk_181 0 20 (dk_at dksX6_init_1 6 rfl rfl)
theorem dX6_init_33 : decode cX6_init 33 = .ok (.return_, 1) := dk_177 (dk_at dksX6_init_1 9 rfl rfl)
abbrev cX6_goes : ByteArray := prog_12_method_6_code
def yX6_goes : MethodName := ⟨RX6, "goes", "(II)I"⟩
def dkwX6_goes_15 : List UInt8 := [180, 0, 48, 96, 172]
abbrev dktX6_goes_15 : List UInt8 := dkwX6_goes_15 ++ []
def dkwX6_goes_14 : List UInt8 := [181, 0, 45, 42, 21, 5, 181, 0, 48, 132, 3, 1, 167, 255, 205, 16, 10, 42, 180, 0, 45, 104, 42]
abbrev dktX6_goes_14 : List UInt8 := dkwX6_goes_14 ++ dktX6_goes_15
def dkwX6_goes_13 : List UInt8 := [182, 0, 41, 54, 4, 42, 42, 180, 0, 20, 42, 180, 0, 45, 50, 182, 0, 41, 54, 5, 42, 21, 4]
abbrev dktX6_goes_13 : List UInt8 := dkwX6_goes_13 ++ dktX6_goes_14
def dkwX6_goes_12 : List UInt8 := [132, 3, 1, 167, 255, 63, 3, 62, 29, 16, 10, 162, 0, 51, 42, 42, 180, 0, 17, 42, 180, 0, 48, 50]
abbrev dktX6_goes_12 : List UInt8 := dkwX6_goes_12 ++ dktX6_goes_13
def dkwX6_goes_11 : List UInt8 := [50, 21, 6, 46, 21, 8, 182, 0, 58, 79, 42, 21, 5, 181, 0, 45, 42, 21, 6, 181, 0, 48]
abbrev dktX6_goes_11 : List UInt8 := dkwX6_goes_11 ++ dktX6_goes_12
def dkwX6_goes_10 : List UInt8 := [21, 6, 42, 42, 180, 0, 20, 42, 180, 0, 45, 50, 21, 6, 46, 42, 180, 0, 3, 180, 0, 62, 21, 5]
abbrev dktX6_goes_10 : List UInt8 := dkwX6_goes_10 ++ dktX6_goes_11
def dkwX6_goes_9 : List UInt8 := [180, 0, 55, 21, 5, 50, 21, 6, 46, 21, 7, 182, 0, 58, 79, 42, 180, 0, 20, 42, 180, 0, 45, 50]
abbrev dktX6_goes_9 : List UInt8 := dkwX6_goes_9 ++ dktX6_goes_10
def dkwX6_goes_8 : List UInt8 := [180, 0, 48, 50, 21, 5, 42, 42, 180, 0, 17, 42, 180, 0, 48, 50, 21, 5, 46, 42, 180, 0, 3]
abbrev dktX6_goes_8 : List UInt8 := dkwX6_goes_8 ++ dktX6_goes_9
def dkwX6_goes_7 : List UInt8 := [21, 5, 50, 42, 42, 180, 0, 20, 21, 5, 50, 182, 0, 41, 46, 54, 8, 42, 180, 0, 17, 42]
abbrev dktX6_goes_7 : List UInt8 := dkwX6_goes_7 ++ dktX6_goes_8
def dkwX6_goes_6 : List UInt8 := [180, 0, 17, 21, 6, 50, 42, 42, 180, 0, 17, 21, 6, 50, 182, 0, 41, 46, 54, 7, 42, 180, 0, 20]
abbrev dktX6_goes_6 : List UInt8 := dkwX6_goes_6 ++ dktX6_goes_7
def dkwX6_goes_5 : List UInt8 := [182, 0, 51, 54, 5, 42, 42, 180, 0, 20, 42, 180, 0, 45, 50, 21, 4, 182, 0, 51, 54, 6, 42]
abbrev dktX6_goes_5 : List UInt8 := dkwX6_goes_5 ++ dktX6_goes_6
def dkwX6_goes_4 : List UInt8 := [16, 50, 16, 50, 29, 104, 27, 108, 100, 54, 4, 42, 42, 180, 0, 17, 42, 180, 0, 48, 50, 21, 4]
abbrev dktX6_goes_4 : List UInt8 := dkwX6_goes_4 ++ dktX6_goes_5
def dkwX6_goes_3 : List UInt8 := [42, 42, 180, 0, 3, 180, 0, 28, 180, 0, 32, 4, 100, 181, 0, 48, 3, 62, 29, 27, 162, 0, 194]
abbrev dktX6_goes_3 : List UInt8 := dkwX6_goes_3 ++ dktX6_goes_4
def dkwX6_goes_2 : List UInt8 := [167, 255, 211, 42, 28, 181, 0, 24, 42, 42, 180, 0, 3, 180, 0, 28, 180, 0, 32, 4, 100, 181, 0, 45]
abbrev dktX6_goes_2 : List UInt8 := dkwX6_goes_2 ++ dktX6_goes_3
def dkwX6_goes_1 : List UInt8 := [21, 4, 3, 79, 42, 180, 0, 20, 29, 50, 21, 4, 3, 79, 132, 4, 1, 167, 255, 226, 132, 3, 1]
abbrev dktX6_goes_1 : List UInt8 := dkwX6_goes_1 ++ dktX6_goes_2
def dkwX6_goes_0 : List UInt8 := [3, 62, 29, 16, 8, 162, 0, 45, 3, 54, 4, 21, 4, 16, 8, 162, 0, 29, 42, 180, 0, 17, 29, 50]
abbrev dktX6_goes_0 : List UInt8 := dkwX6_goes_0 ++ dktX6_goes_1
theorem dksX6_goes_0 : cX6_goes.data.toList.drop 0 = dktX6_goes_0 := by decide +kernel
theorem dksX6_goes_1 : cX6_goes.data.toList.drop 24 = dktX6_goes_1 := dk_seg dksX6_goes_0 24 rfl rfl
theorem dksX6_goes_2 : cX6_goes.data.toList.drop 47 = dktX6_goes_2 := dk_seg dksX6_goes_1 23 rfl rfl
theorem dksX6_goes_3 : cX6_goes.data.toList.drop 71 = dktX6_goes_3 := dk_seg dksX6_goes_2 24 rfl rfl
theorem dksX6_goes_4 : cX6_goes.data.toList.drop 94 = dktX6_goes_4 := dk_seg dksX6_goes_3 23 rfl rfl
theorem dksX6_goes_5 : cX6_goes.data.toList.drop 117 = dktX6_goes_5 := dk_seg dksX6_goes_4 23 rfl rfl
theorem dksX6_goes_6 : cX6_goes.data.toList.drop 140 = dktX6_goes_6 := dk_seg dksX6_goes_5 23 rfl rfl
theorem dksX6_goes_7 : cX6_goes.data.toList.drop 164 = dktX6_goes_7 := dk_seg dksX6_goes_6 24 rfl rfl
theorem dksX6_goes_8 : cX6_goes.data.toList.drop 186 = dktX6_goes_8 := dk_seg dksX6_goes_7 22 rfl rfl
theorem dksX6_goes_9 : cX6_goes.data.toList.drop 209 = dktX6_goes_9 := dk_seg dksX6_goes_8 23 rfl rfl
theorem dksX6_goes_10 : cX6_goes.data.toList.drop 233 = dktX6_goes_10 := dk_seg dksX6_goes_9 24 rfl rfl
theorem dksX6_goes_11 : cX6_goes.data.toList.drop 257 = dktX6_goes_11 := dk_seg dksX6_goes_10 24 rfl rfl
theorem dksX6_goes_12 : cX6_goes.data.toList.drop 279 = dktX6_goes_12 := dk_seg dksX6_goes_11 22 rfl rfl
theorem dksX6_goes_13 : cX6_goes.data.toList.drop 303 = dktX6_goes_13 := dk_seg dksX6_goes_12 24 rfl rfl
theorem dksX6_goes_14 : cX6_goes.data.toList.drop 326 = dktX6_goes_14 := dk_seg dksX6_goes_13 23 rfl rfl
theorem dksX6_goes_15 : cX6_goes.data.toList.drop 349 = dktX6_goes_15 := dk_seg dksX6_goes_14 23 rfl rfl
theorem dX6_goes_0 : decode cX6_goes 0 = .ok (.iconst 0, 1) := dk_3 (dk_at dksX6_goes_0 0 rfl rfl)
theorem dX6_goes_1 : decode cX6_goes 1 = .ok (.istore_n 3, 1) := dk_62 (dk_at dksX6_goes_0 1 rfl rfl)
theorem dX6_goes_2 : decode cX6_goes 2 = .ok (.iload_n 3, 1) := dk_29 (dk_at dksX6_goes_0 2 rfl rfl)
theorem dX6_goes_3 : decode cX6_goes 3 = .ok (.bipush 8, 2) := dk_16 8 (dk_at dksX6_goes_0 3 rfl rfl)
theorem dX6_goes_5 : decode cX6_goes 5 = .ok (.if_icmp .ge 45, 3) := dk_162 0 45 (dk_at dksX6_goes_0 5 rfl rfl)
theorem dX6_goes_8 : decode cX6_goes 8 = .ok (.iconst 0, 1) := dk_3 (dk_at dksX6_goes_0 8 rfl rfl)
theorem dX6_goes_9 : decode cX6_goes 9 = .ok (.istore 4, 2) := dk_54 4 (dk_at dksX6_goes_0 9 rfl rfl)
theorem dX6_goes_11 : decode cX6_goes 11 = .ok (.iload 4, 2) := dk_21 4 (dk_at dksX6_goes_0 11 rfl rfl)
theorem dX6_goes_13 : decode cX6_goes 13 = .ok (.bipush 8, 2) := dk_16 8 (dk_at dksX6_goes_0 13 rfl rfl)
theorem dX6_goes_15 : decode cX6_goes 15 = .ok (.if_icmp .ge 29, 3) := dk_162 0 29 (dk_at dksX6_goes_0 15 rfl rfl)
theorem dX6_goes_18 : decode cX6_goes 18 = .ok (.aload_n 0, 1) := dk_42 (dk_at dksX6_goes_0 18 rfl rfl)
theorem dX6_goes_19 : decode cX6_goes 19 = .ok (.getfield 17, 3) := dk_180 0 17 (dk_at dksX6_goes_0 19 rfl rfl)
theorem dX6_goes_22 : decode cX6_goes 22 = .ok (.iload_n 3, 1) := dk_29 (dk_at dksX6_goes_0 22 rfl rfl)
theorem dX6_goes_23 : decode cX6_goes 23 = .ok (.aaload, 1) := dk_50 (dk_at dksX6_goes_0 23 rfl rfl)
theorem dX6_goes_24 : decode cX6_goes 24 = .ok (.iload 4, 2) := dk_21 4 (dk_at dksX6_goes_1 0 rfl rfl)
theorem dX6_goes_26 : decode cX6_goes 26 = .ok (.iconst 0, 1) := dk_3 (dk_at dksX6_goes_1 2 rfl rfl)
theorem dX6_goes_27 : decode cX6_goes 27 = .ok (.iastore, 1) := dk_79 (dk_at dksX6_goes_1 3 rfl rfl)
theorem dX6_goes_28 : decode cX6_goes 28 = .ok (.aload_n 0, 1) := dk_42 (dk_at dksX6_goes_1 4 rfl rfl)
theorem dX6_goes_29 : decode cX6_goes 29 = .ok (.getfield 20, 3) := dk_180 0 20 (dk_at dksX6_goes_1 5 rfl rfl)
theorem dX6_goes_32 : decode cX6_goes 32 = .ok (.iload_n 3, 1) := dk_29 (dk_at dksX6_goes_1 8 rfl rfl)
theorem dX6_goes_33 : decode cX6_goes 33 = .ok (.aaload, 1) := dk_50 (dk_at dksX6_goes_1 9 rfl rfl)
theorem dX6_goes_34 : decode cX6_goes 34 = .ok (.iload 4, 2) := dk_21 4 (dk_at dksX6_goes_1 10 rfl rfl)
theorem dX6_goes_36 : decode cX6_goes 36 = .ok (.iconst 0, 1) := dk_3 (dk_at dksX6_goes_1 12 rfl rfl)
theorem dX6_goes_37 : decode cX6_goes 37 = .ok (.iastore, 1) := dk_79 (dk_at dksX6_goes_1 13 rfl rfl)
theorem dX6_goes_38 : decode cX6_goes 38 = .ok (.iinc 4 1, 3) := dk_132 4 1 (dk_at dksX6_goes_1 14 rfl rfl)
theorem dX6_goes_41 : decode cX6_goes 41 = .ok (.goto (-30), 3) := dk_167 255 226 (dk_at dksX6_goes_1 17 rfl rfl)
theorem dX6_goes_44 : decode cX6_goes 44 = .ok (.iinc 3 1, 3) := dk_132 3 1 (dk_at dksX6_goes_1 20 rfl rfl)
theorem dX6_goes_47 : decode cX6_goes 47 = .ok (.goto (-45), 3) := dk_167 255 211 (dk_at dksX6_goes_2 0 rfl rfl)
theorem dX6_goes_50 : decode cX6_goes 50 = .ok (.aload_n 0, 1) := dk_42 (dk_at dksX6_goes_2 3 rfl rfl)
theorem dX6_goes_51 : decode cX6_goes 51 = .ok (.iload_n 2, 1) := dk_28 (dk_at dksX6_goes_2 4 rfl rfl)
theorem dX6_goes_52 : decode cX6_goes 52 = .ok (.putfield 24, 3) := dk_181 0 24 (dk_at dksX6_goes_2 5 rfl rfl)
theorem dX6_goes_55 : decode cX6_goes 55 = .ok (.aload_n 0, 1) := dk_42 (dk_at dksX6_goes_2 8 rfl rfl)
theorem dX6_goes_56 : decode cX6_goes 56 = .ok (.aload_n 0, 1) := dk_42 (dk_at dksX6_goes_2 9 rfl rfl)
theorem dX6_goes_57 : decode cX6_goes 57 = .ok (.getfield 3, 3) := dk_180 0 3 (dk_at dksX6_goes_2 10 rfl rfl)
theorem dX6_goes_60 : decode cX6_goes 60 = .ok (.getfield 28, 3) := dk_180 0 28 (dk_at dksX6_goes_2 13 rfl rfl)
theorem dX6_goes_63 : decode cX6_goes 63 = .ok (.getfield 32, 3) := dk_180 0 32 (dk_at dksX6_goes_2 16 rfl rfl)
theorem dX6_goes_66 : decode cX6_goes 66 = .ok (.iconst 1, 1) := dk_4 (dk_at dksX6_goes_2 19 rfl rfl)
theorem dX6_goes_67 : decode cX6_goes 67 = .ok (.isub, 1) := dk_100 (dk_at dksX6_goes_2 20 rfl rfl)
theorem dX6_goes_68 : decode cX6_goes 68 = .ok (.putfield 45, 3) := dk_181 0 45 (dk_at dksX6_goes_2 21 rfl rfl)
theorem dX6_goes_71 : decode cX6_goes 71 = .ok (.aload_n 0, 1) := dk_42 (dk_at dksX6_goes_3 0 rfl rfl)
theorem dX6_goes_72 : decode cX6_goes 72 = .ok (.aload_n 0, 1) := dk_42 (dk_at dksX6_goes_3 1 rfl rfl)
theorem dX6_goes_73 : decode cX6_goes 73 = .ok (.getfield 3, 3) := dk_180 0 3 (dk_at dksX6_goes_3 2 rfl rfl)
theorem dX6_goes_76 : decode cX6_goes 76 = .ok (.getfield 28, 3) := dk_180 0 28 (dk_at dksX6_goes_3 5 rfl rfl)
theorem dX6_goes_79 : decode cX6_goes 79 = .ok (.getfield 32, 3) := dk_180 0 32 (dk_at dksX6_goes_3 8 rfl rfl)
theorem dX6_goes_82 : decode cX6_goes 82 = .ok (.iconst 1, 1) := dk_4 (dk_at dksX6_goes_3 11 rfl rfl)
theorem dX6_goes_83 : decode cX6_goes 83 = .ok (.isub, 1) := dk_100 (dk_at dksX6_goes_3 12 rfl rfl)
theorem dX6_goes_84 : decode cX6_goes 84 = .ok (.putfield 48, 3) := dk_181 0 48 (dk_at dksX6_goes_3 13 rfl rfl)
theorem dX6_goes_87 : decode cX6_goes 87 = .ok (.iconst 0, 1) := dk_3 (dk_at dksX6_goes_3 16 rfl rfl)
theorem dX6_goes_88 : decode cX6_goes 88 = .ok (.istore_n 3, 1) := dk_62 (dk_at dksX6_goes_3 17 rfl rfl)
theorem dX6_goes_89 : decode cX6_goes 89 = .ok (.iload_n 3, 1) := dk_29 (dk_at dksX6_goes_3 18 rfl rfl)
theorem dX6_goes_90 : decode cX6_goes 90 = .ok (.iload_n 1, 1) := dk_27 (dk_at dksX6_goes_3 19 rfl rfl)
theorem dX6_goes_91 : decode cX6_goes 91 = .ok (.if_icmp .ge 194, 3) := dk_162 0 194 (dk_at dksX6_goes_3 20 rfl rfl)
theorem dX6_goes_94 : decode cX6_goes 94 = .ok (.bipush 50, 2) := dk_16 50 (dk_at dksX6_goes_4 0 rfl rfl)
theorem dX6_goes_96 : decode cX6_goes 96 = .ok (.bipush 50, 2) := dk_16 50 (dk_at dksX6_goes_4 2 rfl rfl)
theorem dX6_goes_98 : decode cX6_goes 98 = .ok (.iload_n 3, 1) := dk_29 (dk_at dksX6_goes_4 4 rfl rfl)
theorem dX6_goes_99 : decode cX6_goes 99 = .ok (.imul, 1) := dk_104 (dk_at dksX6_goes_4 5 rfl rfl)
theorem dX6_goes_100 : decode cX6_goes 100 = .ok (.iload_n 1, 1) := dk_27 (dk_at dksX6_goes_4 6 rfl rfl)
theorem dX6_goes_101 : decode cX6_goes 101 = .ok (.idiv, 1) := dk_108 (dk_at dksX6_goes_4 7 rfl rfl)
theorem dX6_goes_102 : decode cX6_goes 102 = .ok (.isub, 1) := dk_100 (dk_at dksX6_goes_4 8 rfl rfl)
theorem dX6_goes_103 : decode cX6_goes 103 = .ok (.istore 4, 2) := dk_54 4 (dk_at dksX6_goes_4 9 rfl rfl)
theorem dX6_goes_105 : decode cX6_goes 105 = .ok (.aload_n 0, 1) := dk_42 (dk_at dksX6_goes_4 11 rfl rfl)
theorem dX6_goes_106 : decode cX6_goes 106 = .ok (.aload_n 0, 1) := dk_42 (dk_at dksX6_goes_4 12 rfl rfl)
theorem dX6_goes_107 : decode cX6_goes 107 = .ok (.getfield 17, 3) := dk_180 0 17 (dk_at dksX6_goes_4 13 rfl rfl)
theorem dX6_goes_110 : decode cX6_goes 110 = .ok (.aload_n 0, 1) := dk_42 (dk_at dksX6_goes_4 16 rfl rfl)
theorem dX6_goes_111 : decode cX6_goes 111 = .ok (.getfield 48, 3) := dk_180 0 48 (dk_at dksX6_goes_4 17 rfl rfl)
theorem dX6_goes_114 : decode cX6_goes 114 = .ok (.aaload, 1) := dk_50 (dk_at dksX6_goes_4 20 rfl rfl)
theorem dX6_goes_115 : decode cX6_goes 115 = .ok (.iload 4, 2) := dk_21 4 (dk_at dksX6_goes_4 21 rfl rfl)
theorem dX6_goes_117 : decode cX6_goes 117 = .ok (.invokevirtual 51, 3) := dk_182 0 51 (dk_at dksX6_goes_5 0 rfl rfl)
theorem dX6_goes_120 : decode cX6_goes 120 = .ok (.istore 5, 2) := dk_54 5 (dk_at dksX6_goes_5 3 rfl rfl)
theorem dX6_goes_122 : decode cX6_goes 122 = .ok (.aload_n 0, 1) := dk_42 (dk_at dksX6_goes_5 5 rfl rfl)
theorem dX6_goes_123 : decode cX6_goes 123 = .ok (.aload_n 0, 1) := dk_42 (dk_at dksX6_goes_5 6 rfl rfl)
theorem dX6_goes_124 : decode cX6_goes 124 = .ok (.getfield 20, 3) := dk_180 0 20 (dk_at dksX6_goes_5 7 rfl rfl)
theorem dX6_goes_127 : decode cX6_goes 127 = .ok (.aload_n 0, 1) := dk_42 (dk_at dksX6_goes_5 10 rfl rfl)
theorem dX6_goes_128 : decode cX6_goes 128 = .ok (.getfield 45, 3) := dk_180 0 45 (dk_at dksX6_goes_5 11 rfl rfl)
theorem dX6_goes_131 : decode cX6_goes 131 = .ok (.aaload, 1) := dk_50 (dk_at dksX6_goes_5 14 rfl rfl)
theorem dX6_goes_132 : decode cX6_goes 132 = .ok (.iload 4, 2) := dk_21 4 (dk_at dksX6_goes_5 15 rfl rfl)
theorem dX6_goes_134 : decode cX6_goes 134 = .ok (.invokevirtual 51, 3) := dk_182 0 51 (dk_at dksX6_goes_5 17 rfl rfl)
theorem dX6_goes_137 : decode cX6_goes 137 = .ok (.istore 6, 2) := dk_54 6 (dk_at dksX6_goes_5 20 rfl rfl)
theorem dX6_goes_139 : decode cX6_goes 139 = .ok (.aload_n 0, 1) := dk_42 (dk_at dksX6_goes_5 22 rfl rfl)
theorem dX6_goes_140 : decode cX6_goes 140 = .ok (.getfield 17, 3) := dk_180 0 17 (dk_at dksX6_goes_6 0 rfl rfl)
theorem dX6_goes_143 : decode cX6_goes 143 = .ok (.iload 6, 2) := dk_21 6 (dk_at dksX6_goes_6 3 rfl rfl)
theorem dX6_goes_145 : decode cX6_goes 145 = .ok (.aaload, 1) := dk_50 (dk_at dksX6_goes_6 5 rfl rfl)
theorem dX6_goes_146 : decode cX6_goes 146 = .ok (.aload_n 0, 1) := dk_42 (dk_at dksX6_goes_6 6 rfl rfl)
theorem dX6_goes_147 : decode cX6_goes 147 = .ok (.aload_n 0, 1) := dk_42 (dk_at dksX6_goes_6 7 rfl rfl)
theorem dX6_goes_148 : decode cX6_goes 148 = .ok (.getfield 17, 3) := dk_180 0 17 (dk_at dksX6_goes_6 8 rfl rfl)
theorem dX6_goes_151 : decode cX6_goes 151 = .ok (.iload 6, 2) := dk_21 6 (dk_at dksX6_goes_6 11 rfl rfl)
theorem dX6_goes_153 : decode cX6_goes 153 = .ok (.aaload, 1) := dk_50 (dk_at dksX6_goes_6 13 rfl rfl)
theorem dX6_goes_154 : decode cX6_goes 154 = .ok (.invokevirtual 41, 3) := dk_182 0 41 (dk_at dksX6_goes_6 14 rfl rfl)
theorem dX6_goes_157 : decode cX6_goes 157 = .ok (.iaload, 1) := dk_46 (dk_at dksX6_goes_6 17 rfl rfl)
theorem dX6_goes_158 : decode cX6_goes 158 = .ok (.istore 7, 2) := dk_54 7 (dk_at dksX6_goes_6 18 rfl rfl)
theorem dX6_goes_160 : decode cX6_goes 160 = .ok (.aload_n 0, 1) := dk_42 (dk_at dksX6_goes_6 20 rfl rfl)
theorem dX6_goes_161 : decode cX6_goes 161 = .ok (.getfield 20, 3) := dk_180 0 20 (dk_at dksX6_goes_6 21 rfl rfl)
theorem dX6_goes_164 : decode cX6_goes 164 = .ok (.iload 5, 2) := dk_21 5 (dk_at dksX6_goes_7 0 rfl rfl)
theorem dX6_goes_166 : decode cX6_goes 166 = .ok (.aaload, 1) := dk_50 (dk_at dksX6_goes_7 2 rfl rfl)
theorem dX6_goes_167 : decode cX6_goes 167 = .ok (.aload_n 0, 1) := dk_42 (dk_at dksX6_goes_7 3 rfl rfl)
theorem dX6_goes_168 : decode cX6_goes 168 = .ok (.aload_n 0, 1) := dk_42 (dk_at dksX6_goes_7 4 rfl rfl)
theorem dX6_goes_169 : decode cX6_goes 169 = .ok (.getfield 20, 3) := dk_180 0 20 (dk_at dksX6_goes_7 5 rfl rfl)
theorem dX6_goes_172 : decode cX6_goes 172 = .ok (.iload 5, 2) := dk_21 5 (dk_at dksX6_goes_7 8 rfl rfl)
theorem dX6_goes_174 : decode cX6_goes 174 = .ok (.aaload, 1) := dk_50 (dk_at dksX6_goes_7 10 rfl rfl)
theorem dX6_goes_175 : decode cX6_goes 175 = .ok (.invokevirtual 41, 3) := dk_182 0 41 (dk_at dksX6_goes_7 11 rfl rfl)
theorem dX6_goes_178 : decode cX6_goes 178 = .ok (.iaload, 1) := dk_46 (dk_at dksX6_goes_7 14 rfl rfl)
theorem dX6_goes_179 : decode cX6_goes 179 = .ok (.istore 8, 2) := dk_54 8 (dk_at dksX6_goes_7 15 rfl rfl)
theorem dX6_goes_181 : decode cX6_goes 181 = .ok (.aload_n 0, 1) := dk_42 (dk_at dksX6_goes_7 17 rfl rfl)
theorem dX6_goes_182 : decode cX6_goes 182 = .ok (.getfield 17, 3) := dk_180 0 17 (dk_at dksX6_goes_7 18 rfl rfl)
theorem dX6_goes_185 : decode cX6_goes 185 = .ok (.aload_n 0, 1) := dk_42 (dk_at dksX6_goes_7 21 rfl rfl)
theorem dX6_goes_186 : decode cX6_goes 186 = .ok (.getfield 48, 3) := dk_180 0 48 (dk_at dksX6_goes_8 0 rfl rfl)
theorem dX6_goes_189 : decode cX6_goes 189 = .ok (.aaload, 1) := dk_50 (dk_at dksX6_goes_8 3 rfl rfl)
theorem dX6_goes_190 : decode cX6_goes 190 = .ok (.iload 5, 2) := dk_21 5 (dk_at dksX6_goes_8 4 rfl rfl)
theorem dX6_goes_192 : decode cX6_goes 192 = .ok (.aload_n 0, 1) := dk_42 (dk_at dksX6_goes_8 6 rfl rfl)
theorem dX6_goes_193 : decode cX6_goes 193 = .ok (.aload_n 0, 1) := dk_42 (dk_at dksX6_goes_8 7 rfl rfl)
theorem dX6_goes_194 : decode cX6_goes 194 = .ok (.getfield 17, 3) := dk_180 0 17 (dk_at dksX6_goes_8 8 rfl rfl)
theorem dX6_goes_197 : decode cX6_goes 197 = .ok (.aload_n 0, 1) := dk_42 (dk_at dksX6_goes_8 11 rfl rfl)
theorem dX6_goes_198 : decode cX6_goes 198 = .ok (.getfield 48, 3) := dk_180 0 48 (dk_at dksX6_goes_8 12 rfl rfl)
theorem dX6_goes_201 : decode cX6_goes 201 = .ok (.aaload, 1) := dk_50 (dk_at dksX6_goes_8 15 rfl rfl)
theorem dX6_goes_202 : decode cX6_goes 202 = .ok (.iload 5, 2) := dk_21 5 (dk_at dksX6_goes_8 16 rfl rfl)
theorem dX6_goes_204 : decode cX6_goes 204 = .ok (.iaload, 1) := dk_46 (dk_at dksX6_goes_8 18 rfl rfl)
theorem dX6_goes_205 : decode cX6_goes 205 = .ok (.aload_n 0, 1) := dk_42 (dk_at dksX6_goes_8 19 rfl rfl)
theorem dX6_goes_206 : decode cX6_goes 206 = .ok (.getfield 3, 3) := dk_180 0 3 (dk_at dksX6_goes_8 20 rfl rfl)
theorem dX6_goes_209 : decode cX6_goes 209 = .ok (.getfield 55, 3) := dk_180 0 55 (dk_at dksX6_goes_9 0 rfl rfl)
theorem dX6_goes_212 : decode cX6_goes 212 = .ok (.iload 5, 2) := dk_21 5 (dk_at dksX6_goes_9 3 rfl rfl)
theorem dX6_goes_214 : decode cX6_goes 214 = .ok (.aaload, 1) := dk_50 (dk_at dksX6_goes_9 5 rfl rfl)
theorem dX6_goes_215 : decode cX6_goes 215 = .ok (.iload 6, 2) := dk_21 6 (dk_at dksX6_goes_9 6 rfl rfl)
theorem dX6_goes_217 : decode cX6_goes 217 = .ok (.iaload, 1) := dk_46 (dk_at dksX6_goes_9 8 rfl rfl)
theorem dX6_goes_218 : decode cX6_goes 218 = .ok (.iload 7, 2) := dk_21 7 (dk_at dksX6_goes_9 9 rfl rfl)
theorem dX6_goes_220 : decode cX6_goes 220 = .ok (.invokevirtual 58, 3) := dk_182 0 58 (dk_at dksX6_goes_9 11 rfl rfl)
theorem dX6_goes_223 : decode cX6_goes 223 = .ok (.iastore, 1) := dk_79 (dk_at dksX6_goes_9 14 rfl rfl)
theorem dX6_goes_224 : decode cX6_goes 224 = .ok (.aload_n 0, 1) := dk_42 (dk_at dksX6_goes_9 15 rfl rfl)
theorem dX6_goes_225 : decode cX6_goes 225 = .ok (.getfield 20, 3) := dk_180 0 20 (dk_at dksX6_goes_9 16 rfl rfl)
theorem dX6_goes_228 : decode cX6_goes 228 = .ok (.aload_n 0, 1) := dk_42 (dk_at dksX6_goes_9 19 rfl rfl)
theorem dX6_goes_229 : decode cX6_goes 229 = .ok (.getfield 45, 3) := dk_180 0 45 (dk_at dksX6_goes_9 20 rfl rfl)
theorem dX6_goes_232 : decode cX6_goes 232 = .ok (.aaload, 1) := dk_50 (dk_at dksX6_goes_9 23 rfl rfl)
theorem dX6_goes_233 : decode cX6_goes 233 = .ok (.iload 6, 2) := dk_21 6 (dk_at dksX6_goes_10 0 rfl rfl)
theorem dX6_goes_235 : decode cX6_goes 235 = .ok (.aload_n 0, 1) := dk_42 (dk_at dksX6_goes_10 2 rfl rfl)
theorem dX6_goes_236 : decode cX6_goes 236 = .ok (.aload_n 0, 1) := dk_42 (dk_at dksX6_goes_10 3 rfl rfl)
theorem dX6_goes_237 : decode cX6_goes 237 = .ok (.getfield 20, 3) := dk_180 0 20 (dk_at dksX6_goes_10 4 rfl rfl)
theorem dX6_goes_240 : decode cX6_goes 240 = .ok (.aload_n 0, 1) := dk_42 (dk_at dksX6_goes_10 7 rfl rfl)
theorem dX6_goes_241 : decode cX6_goes 241 = .ok (.getfield 45, 3) := dk_180 0 45 (dk_at dksX6_goes_10 8 rfl rfl)
theorem dX6_goes_244 : decode cX6_goes 244 = .ok (.aaload, 1) := dk_50 (dk_at dksX6_goes_10 11 rfl rfl)
theorem dX6_goes_245 : decode cX6_goes 245 = .ok (.iload 6, 2) := dk_21 6 (dk_at dksX6_goes_10 12 rfl rfl)
theorem dX6_goes_247 : decode cX6_goes 247 = .ok (.iaload, 1) := dk_46 (dk_at dksX6_goes_10 14 rfl rfl)
theorem dX6_goes_248 : decode cX6_goes 248 = .ok (.aload_n 0, 1) := dk_42 (dk_at dksX6_goes_10 15 rfl rfl)
theorem dX6_goes_249 : decode cX6_goes 249 = .ok (.getfield 3, 3) := dk_180 0 3 (dk_at dksX6_goes_10 16 rfl rfl)
theorem dX6_goes_252 : decode cX6_goes 252 = .ok (.getfield 62, 3) := dk_180 0 62 (dk_at dksX6_goes_10 19 rfl rfl)
theorem dX6_goes_255 : decode cX6_goes 255 = .ok (.iload 5, 2) := dk_21 5 (dk_at dksX6_goes_10 22 rfl rfl)
theorem dX6_goes_257 : decode cX6_goes 257 = .ok (.aaload, 1) := dk_50 (dk_at dksX6_goes_11 0 rfl rfl)
theorem dX6_goes_258 : decode cX6_goes 258 = .ok (.iload 6, 2) := dk_21 6 (dk_at dksX6_goes_11 1 rfl rfl)
theorem dX6_goes_260 : decode cX6_goes 260 = .ok (.iaload, 1) := dk_46 (dk_at dksX6_goes_11 3 rfl rfl)
theorem dX6_goes_261 : decode cX6_goes 261 = .ok (.iload 8, 2) := dk_21 8 (dk_at dksX6_goes_11 4 rfl rfl)
theorem dX6_goes_263 : decode cX6_goes 263 = .ok (.invokevirtual 58, 3) := dk_182 0 58 (dk_at dksX6_goes_11 6 rfl rfl)
theorem dX6_goes_266 : decode cX6_goes 266 = .ok (.iastore, 1) := dk_79 (dk_at dksX6_goes_11 9 rfl rfl)
theorem dX6_goes_267 : decode cX6_goes 267 = .ok (.aload_n 0, 1) := dk_42 (dk_at dksX6_goes_11 10 rfl rfl)
theorem dX6_goes_268 : decode cX6_goes 268 = .ok (.iload 5, 2) := dk_21 5 (dk_at dksX6_goes_11 11 rfl rfl)
theorem dX6_goes_270 : decode cX6_goes 270 = .ok (.putfield 45, 3) := dk_181 0 45 (dk_at dksX6_goes_11 13 rfl rfl)
theorem dX6_goes_273 : decode cX6_goes 273 = .ok (.aload_n 0, 1) := dk_42 (dk_at dksX6_goes_11 16 rfl rfl)
theorem dX6_goes_274 : decode cX6_goes 274 = .ok (.iload 6, 2) := dk_21 6 (dk_at dksX6_goes_11 17 rfl rfl)
theorem dX6_goes_276 : decode cX6_goes 276 = .ok (.putfield 48, 3) := dk_181 0 48 (dk_at dksX6_goes_11 19 rfl rfl)
theorem dX6_goes_279 : decode cX6_goes 279 = .ok (.iinc 3 1, 3) := dk_132 3 1 (dk_at dksX6_goes_12 0 rfl rfl)
theorem dX6_goes_282 : decode cX6_goes 282 = .ok (.goto (-193), 3) := dk_167 255 63 (dk_at dksX6_goes_12 3 rfl rfl)
theorem dX6_goes_285 : decode cX6_goes 285 = .ok (.iconst 0, 1) := dk_3 (dk_at dksX6_goes_12 6 rfl rfl)
theorem dX6_goes_286 : decode cX6_goes 286 = .ok (.istore_n 3, 1) := dk_62 (dk_at dksX6_goes_12 7 rfl rfl)
theorem dX6_goes_287 : decode cX6_goes 287 = .ok (.iload_n 3, 1) := dk_29 (dk_at dksX6_goes_12 8 rfl rfl)
theorem dX6_goes_288 : decode cX6_goes 288 = .ok (.bipush 10, 2) := dk_16 10 (dk_at dksX6_goes_12 9 rfl rfl)
theorem dX6_goes_290 : decode cX6_goes 290 = .ok (.if_icmp .ge 51, 3) := dk_162 0 51 (dk_at dksX6_goes_12 11 rfl rfl)
theorem dX6_goes_293 : decode cX6_goes 293 = .ok (.aload_n 0, 1) := dk_42 (dk_at dksX6_goes_12 14 rfl rfl)
theorem dX6_goes_294 : decode cX6_goes 294 = .ok (.aload_n 0, 1) := dk_42 (dk_at dksX6_goes_12 15 rfl rfl)
theorem dX6_goes_295 : decode cX6_goes 295 = .ok (.getfield 17, 3) := dk_180 0 17 (dk_at dksX6_goes_12 16 rfl rfl)
theorem dX6_goes_298 : decode cX6_goes 298 = .ok (.aload_n 0, 1) := dk_42 (dk_at dksX6_goes_12 19 rfl rfl)
theorem dX6_goes_299 : decode cX6_goes 299 = .ok (.getfield 48, 3) := dk_180 0 48 (dk_at dksX6_goes_12 20 rfl rfl)
theorem dX6_goes_302 : decode cX6_goes 302 = .ok (.aaload, 1) := dk_50 (dk_at dksX6_goes_12 23 rfl rfl)
theorem dX6_goes_303 : decode cX6_goes 303 = .ok (.invokevirtual 41, 3) := dk_182 0 41 (dk_at dksX6_goes_13 0 rfl rfl)
theorem dX6_goes_306 : decode cX6_goes 306 = .ok (.istore 4, 2) := dk_54 4 (dk_at dksX6_goes_13 3 rfl rfl)
theorem dX6_goes_308 : decode cX6_goes 308 = .ok (.aload_n 0, 1) := dk_42 (dk_at dksX6_goes_13 5 rfl rfl)
theorem dX6_goes_309 : decode cX6_goes 309 = .ok (.aload_n 0, 1) := dk_42 (dk_at dksX6_goes_13 6 rfl rfl)
theorem dX6_goes_310 : decode cX6_goes 310 = .ok (.getfield 20, 3) := dk_180 0 20 (dk_at dksX6_goes_13 7 rfl rfl)
theorem dX6_goes_313 : decode cX6_goes 313 = .ok (.aload_n 0, 1) := dk_42 (dk_at dksX6_goes_13 10 rfl rfl)
theorem dX6_goes_314 : decode cX6_goes 314 = .ok (.getfield 45, 3) := dk_180 0 45 (dk_at dksX6_goes_13 11 rfl rfl)
theorem dX6_goes_317 : decode cX6_goes 317 = .ok (.aaload, 1) := dk_50 (dk_at dksX6_goes_13 14 rfl rfl)
theorem dX6_goes_318 : decode cX6_goes 318 = .ok (.invokevirtual 41, 3) := dk_182 0 41 (dk_at dksX6_goes_13 15 rfl rfl)
theorem dX6_goes_321 : decode cX6_goes 321 = .ok (.istore 5, 2) := dk_54 5 (dk_at dksX6_goes_13 18 rfl rfl)
theorem dX6_goes_323 : decode cX6_goes 323 = .ok (.aload_n 0, 1) := dk_42 (dk_at dksX6_goes_13 20 rfl rfl)
theorem dX6_goes_324 : decode cX6_goes 324 = .ok (.iload 4, 2) := dk_21 4 (dk_at dksX6_goes_13 21 rfl rfl)
theorem dX6_goes_326 : decode cX6_goes 326 = .ok (.putfield 45, 3) := dk_181 0 45 (dk_at dksX6_goes_14 0 rfl rfl)
theorem dX6_goes_329 : decode cX6_goes 329 = .ok (.aload_n 0, 1) := dk_42 (dk_at dksX6_goes_14 3 rfl rfl)
theorem dX6_goes_330 : decode cX6_goes 330 = .ok (.iload 5, 2) := dk_21 5 (dk_at dksX6_goes_14 4 rfl rfl)
theorem dX6_goes_332 : decode cX6_goes 332 = .ok (.putfield 48, 3) := dk_181 0 48 (dk_at dksX6_goes_14 6 rfl rfl)
theorem dX6_goes_335 : decode cX6_goes 335 = .ok (.iinc 3 1, 3) := dk_132 3 1 (dk_at dksX6_goes_14 9 rfl rfl)
theorem dX6_goes_338 : decode cX6_goes 338 = .ok (.goto (-51), 3) := dk_167 255 205 (dk_at dksX6_goes_14 12 rfl rfl)
theorem dX6_goes_341 : decode cX6_goes 341 = .ok (.bipush 10, 2) := dk_16 10 (dk_at dksX6_goes_14 15 rfl rfl)
theorem dX6_goes_343 : decode cX6_goes 343 = .ok (.aload_n 0, 1) := dk_42 (dk_at dksX6_goes_14 17 rfl rfl)
theorem dX6_goes_344 : decode cX6_goes 344 = .ok (.getfield 45, 3) := dk_180 0 45 (dk_at dksX6_goes_14 18 rfl rfl)
theorem dX6_goes_347 : decode cX6_goes 347 = .ok (.imul, 1) := dk_104 (dk_at dksX6_goes_14 21 rfl rfl)
theorem dX6_goes_348 : decode cX6_goes 348 = .ok (.aload_n 0, 1) := dk_42 (dk_at dksX6_goes_14 22 rfl rfl)
theorem dX6_goes_349 : decode cX6_goes 349 = .ok (.getfield 48, 3) := dk_180 0 48 (dk_at dksX6_goes_15 0 rfl rfl)
theorem dX6_goes_352 : decode cX6_goes 352 = .ok (.iadd, 1) := dk_96 (dk_at dksX6_goes_15 3 rfl rfl)
theorem dX6_goes_353 : decode cX6_goes 353 = .ok (.ireturn, 1) := dk_172 (dk_at dksX6_goes_15 4 rfl rfl)
abbrev cX6_takes : ByteArray := prog_12_method_4_code
def yX6_takes : MethodName := ⟨RX6, "takes", "([II)I"⟩
def dkwX6_takes_1 : List UInt8 := [180, 0, 32, 112, 172, 42, 43, 182, 0, 41, 172]
abbrev dktX6_takes_1 : List UInt8 := dkwX6_takes_1 ++ []
def dkwX6_takes_0 : List UInt8 := [42, 182, 0, 37, 16, 100, 112, 28, 162, 0, 19, 42, 182, 0, 37, 42, 180, 0, 3, 180, 0, 28]
abbrev dktX6_takes_0 : List UInt8 := dkwX6_takes_0 ++ dktX6_takes_1
theorem dksX6_takes_0 : cX6_takes.data.toList.drop 0 = dktX6_takes_0 := by decide +kernel
theorem dksX6_takes_1 : cX6_takes.data.toList.drop 22 = dktX6_takes_1 := dk_seg dksX6_takes_0 22 rfl rfl
theorem dX6_takes_0 : decode cX6_takes 0 = .ok (.aload_n 0, 1) := dk_42 (dk_at dksX6_takes_0 0 rfl rfl)
theorem dX6_takes_1 : decode cX6_takes 1 = .ok (.invokevirtual 37, 3) := dk_182 0 37 (dk_at dksX6_takes_0 1 rfl rfl)
theorem dX6_takes_4 : decode cX6_takes 4 = .ok (.bipush 100, 2) := dk_16 100 (dk_at dksX6_takes_0 4 rfl rfl)
theorem dX6_takes_6 : decode cX6_takes 6 = .ok (.irem, 1) := dk_112 (dk_at dksX6_takes_0 6 rfl rfl)
theorem dX6_takes_7 : decode cX6_takes 7 = .ok (.iload_n 2, 1) := dk_28 (dk_at dksX6_takes_0 7 rfl rfl)
theorem dX6_takes_8 : decode cX6_takes 8 = .ok (.if_icmp .ge 19, 3) := dk_162 0 19 (dk_at dksX6_takes_0 8 rfl rfl)
theorem dX6_takes_11 : decode cX6_takes 11 = .ok (.aload_n 0, 1) := dk_42 (dk_at dksX6_takes_0 11 rfl rfl)
theorem dX6_takes_12 : decode cX6_takes 12 = .ok (.invokevirtual 37, 3) := dk_182 0 37 (dk_at dksX6_takes_0 12 rfl rfl)
theorem dX6_takes_15 : decode cX6_takes 15 = .ok (.aload_n 0, 1) := dk_42 (dk_at dksX6_takes_0 15 rfl rfl)
theorem dX6_takes_16 : decode cX6_takes 16 = .ok (.getfield 3, 3) := dk_180 0 3 (dk_at dksX6_takes_0 16 rfl rfl)
theorem dX6_takes_19 : decode cX6_takes 19 = .ok (.getfield 28, 3) := dk_180 0 28 (dk_at dksX6_takes_0 19 rfl rfl)
theorem dX6_takes_22 : decode cX6_takes 22 = .ok (.getfield 32, 3) := dk_180 0 32 (dk_at dksX6_takes_1 0 rfl rfl)
theorem dX6_takes_25 : decode cX6_takes 25 = .ok (.irem, 1) := dk_112 (dk_at dksX6_takes_1 3 rfl rfl)
theorem dX6_takes_26 : decode cX6_takes 26 = .ok (.ireturn, 1) := dk_172 (dk_at dksX6_takes_1 4 rfl rfl)
theorem dX6_takes_27 : decode cX6_takes 27 = .ok (.aload_n 0, 1) := dk_42 (dk_at dksX6_takes_1 5 rfl rfl)
theorem dX6_takes_28 : decode cX6_takes 28 = .ok (.aload_n 1, 1) := dk_43 (dk_at dksX6_takes_1 6 rfl rfl)
theorem dX6_takes_29 : decode cX6_takes 29 = .ok (.invokevirtual 41, 3) := dk_182 0 41 (dk_at dksX6_takes_1 7 rfl rfl)
theorem dX6_takes_32 : decode cX6_takes 32 = .ok (.ireturn, 1) := dk_172 (dk_at dksX6_takes_1 10 rfl rfl)
abbrev cX6_draw : ByteArray := prog_12_method_2_code
def yX6_draw : MethodName := ⟨RX6, "draw", "()I"⟩
def dkwX6_draw_0 : List UInt8 := [42, 18, 23, 42, 180, 0, 24, 104, 17, 48, 57, 96, 181, 0, 24, 42, 180, 0, 24, 16, 16, 124, 172]
abbrev dktX6_draw_0 : List UInt8 := dkwX6_draw_0 ++ []
theorem dksX6_draw_0 : cX6_draw.data.toList.drop 0 = dktX6_draw_0 := by decide +kernel
theorem dX6_draw_0 : decode cX6_draw 0 = .ok (.aload_n 0, 1) := dk_42 (dk_at dksX6_draw_0 0 rfl rfl)
theorem dX6_draw_1 : decode cX6_draw 1 = .ok (.ldc 23, 2) := dk_18 23 (dk_at dksX6_draw_0 1 rfl rfl)
theorem dX6_draw_3 : decode cX6_draw 3 = .ok (.aload_n 0, 1) := dk_42 (dk_at dksX6_draw_0 3 rfl rfl)
theorem dX6_draw_4 : decode cX6_draw 4 = .ok (.getfield 24, 3) := dk_180 0 24 (dk_at dksX6_draw_0 4 rfl rfl)
theorem dX6_draw_7 : decode cX6_draw 7 = .ok (.imul, 1) := dk_104 (dk_at dksX6_draw_0 7 rfl rfl)
theorem dX6_draw_8 : decode cX6_draw 8 = .ok (.sipush 12345, 3) := dk_17 48 57 (dk_at dksX6_draw_0 8 rfl rfl)
theorem dX6_draw_11 : decode cX6_draw 11 = .ok (.iadd, 1) := dk_96 (dk_at dksX6_draw_0 11 rfl rfl)
theorem dX6_draw_12 : decode cX6_draw 12 = .ok (.putfield 24, 3) := dk_181 0 24 (dk_at dksX6_draw_0 12 rfl rfl)
theorem dX6_draw_15 : decode cX6_draw 15 = .ok (.aload_n 0, 1) := dk_42 (dk_at dksX6_draw_0 15 rfl rfl)
theorem dX6_draw_16 : decode cX6_draw 16 = .ok (.getfield 24, 3) := dk_180 0 24 (dk_at dksX6_draw_0 16 rfl rfl)
theorem dX6_draw_19 : decode cX6_draw 19 = .ok (.bipush 16, 2) := dk_16 16 (dk_at dksX6_draw_0 19 rfl rfl)
theorem dX6_draw_21 : decode cX6_draw 21 = .ok (.iushr, 1) := dk_124 (dk_at dksX6_draw_0 21 rfl rfl)
theorem dX6_draw_22 : decode cX6_draw 22 = .ok (.ireturn, 1) := dk_172 (dk_at dksX6_draw_0 22 rfl rfl)
abbrev cX6_greatest : ByteArray := prog_12_method_3_code
def yX6_greatest : MethodName := ⟨RX6, "greatest", "([I)I"⟩
def dkwX6_greatest_1 : List UInt8 := [164, 0, 5, 29, 61, 132, 3, 1, 167, 255, 228, 28, 172]
abbrev dktX6_greatest_1 : List UInt8 := dkwX6_greatest_1 ++ []
def dkwX6_greatest_0 : List UInt8 := [3, 61, 4, 62, 29, 42, 180, 0, 3, 180, 0, 28, 180, 0, 32, 162, 0, 20, 43, 29, 46, 43, 28, 46]
abbrev dktX6_greatest_0 : List UInt8 := dkwX6_greatest_0 ++ dktX6_greatest_1
theorem dksX6_greatest_0 : cX6_greatest.data.toList.drop 0 = dktX6_greatest_0 := by decide +kernel
theorem dksX6_greatest_1 : cX6_greatest.data.toList.drop 24 = dktX6_greatest_1 := dk_seg dksX6_greatest_0 24 rfl rfl
theorem dX6_greatest_0 : decode cX6_greatest 0 = .ok (.iconst 0, 1) := dk_3 (dk_at dksX6_greatest_0 0 rfl rfl)
theorem dX6_greatest_1 : decode cX6_greatest 1 = .ok (.istore_n 2, 1) := dk_61 (dk_at dksX6_greatest_0 1 rfl rfl)
theorem dX6_greatest_2 : decode cX6_greatest 2 = .ok (.iconst 1, 1) := dk_4 (dk_at dksX6_greatest_0 2 rfl rfl)
theorem dX6_greatest_3 : decode cX6_greatest 3 = .ok (.istore_n 3, 1) := dk_62 (dk_at dksX6_greatest_0 3 rfl rfl)
theorem dX6_greatest_4 : decode cX6_greatest 4 = .ok (.iload_n 3, 1) := dk_29 (dk_at dksX6_greatest_0 4 rfl rfl)
theorem dX6_greatest_5 : decode cX6_greatest 5 = .ok (.aload_n 0, 1) := dk_42 (dk_at dksX6_greatest_0 5 rfl rfl)
theorem dX6_greatest_6 : decode cX6_greatest 6 = .ok (.getfield 3, 3) := dk_180 0 3 (dk_at dksX6_greatest_0 6 rfl rfl)
theorem dX6_greatest_9 : decode cX6_greatest 9 = .ok (.getfield 28, 3) := dk_180 0 28 (dk_at dksX6_greatest_0 9 rfl rfl)
theorem dX6_greatest_12 : decode cX6_greatest 12 = .ok (.getfield 32, 3) := dk_180 0 32 (dk_at dksX6_greatest_0 12 rfl rfl)
theorem dX6_greatest_15 : decode cX6_greatest 15 = .ok (.if_icmp .ge 20, 3) := dk_162 0 20 (dk_at dksX6_greatest_0 15 rfl rfl)
theorem dX6_greatest_18 : decode cX6_greatest 18 = .ok (.aload_n 1, 1) := dk_43 (dk_at dksX6_greatest_0 18 rfl rfl)
theorem dX6_greatest_19 : decode cX6_greatest 19 = .ok (.iload_n 3, 1) := dk_29 (dk_at dksX6_greatest_0 19 rfl rfl)
theorem dX6_greatest_20 : decode cX6_greatest 20 = .ok (.iaload, 1) := dk_46 (dk_at dksX6_greatest_0 20 rfl rfl)
theorem dX6_greatest_21 : decode cX6_greatest 21 = .ok (.aload_n 1, 1) := dk_43 (dk_at dksX6_greatest_0 21 rfl rfl)
theorem dX6_greatest_22 : decode cX6_greatest 22 = .ok (.iload_n 2, 1) := dk_28 (dk_at dksX6_greatest_0 22 rfl rfl)
theorem dX6_greatest_23 : decode cX6_greatest 23 = .ok (.iaload, 1) := dk_46 (dk_at dksX6_greatest_0 23 rfl rfl)
theorem dX6_greatest_24 : decode cX6_greatest 24 = .ok (.if_icmp .le 5, 3) := dk_164 0 5 (dk_at dksX6_greatest_1 0 rfl rfl)
theorem dX6_greatest_27 : decode cX6_greatest 27 = .ok (.iload_n 3, 1) := dk_29 (dk_at dksX6_greatest_1 3 rfl rfl)
theorem dX6_greatest_28 : decode cX6_greatest 28 = .ok (.istore_n 2, 1) := dk_61 (dk_at dksX6_greatest_1 4 rfl rfl)
theorem dX6_greatest_29 : decode cX6_greatest 29 = .ok (.iinc 3 1, 3) := dk_132 3 1 (dk_at dksX6_greatest_1 5 rfl rfl)
theorem dX6_greatest_32 : decode cX6_greatest 32 = .ok (.goto (-28), 3) := dk_167 255 228 (dk_at dksX6_greatest_1 8 rfl rfl)
theorem dX6_greatest_35 : decode cX6_greatest 35 = .ok (.iload_n 2, 1) := dk_28 (dk_at dksX6_greatest_1 11 rfl rfl)
theorem dX6_greatest_36 : decode cX6_greatest 36 = .ok (.ireturn, 1) := dk_172 (dk_at dksX6_greatest_1 12 rfl rfl)
abbrev cX6_learnt : ByteArray := prog_12_method_5_code
def yX6_learnt : MethodName := ⟨RX6, "learnt", "(III)I"⟩
def dkwX6_learnt_0 : List UInt8 := [27, 16, 8, 28, 104, 16, 7, 29, 104, 16, 8, 108, 96, 27, 100, 16, 8, 108, 96, 172]
abbrev dktX6_learnt_0 : List UInt8 := dkwX6_learnt_0 ++ []
theorem dksX6_learnt_0 : cX6_learnt.data.toList.drop 0 = dktX6_learnt_0 := by decide +kernel
theorem dX6_learnt_0 : decode cX6_learnt 0 = .ok (.iload_n 1, 1) := dk_27 (dk_at dksX6_learnt_0 0 rfl rfl)
theorem dX6_learnt_1 : decode cX6_learnt 1 = .ok (.bipush 8, 2) := dk_16 8 (dk_at dksX6_learnt_0 1 rfl rfl)
theorem dX6_learnt_3 : decode cX6_learnt 3 = .ok (.iload_n 2, 1) := dk_28 (dk_at dksX6_learnt_0 3 rfl rfl)
theorem dX6_learnt_4 : decode cX6_learnt 4 = .ok (.imul, 1) := dk_104 (dk_at dksX6_learnt_0 4 rfl rfl)
theorem dX6_learnt_5 : decode cX6_learnt 5 = .ok (.bipush 7, 2) := dk_16 7 (dk_at dksX6_learnt_0 5 rfl rfl)
theorem dX6_learnt_7 : decode cX6_learnt 7 = .ok (.iload_n 3, 1) := dk_29 (dk_at dksX6_learnt_0 7 rfl rfl)
theorem dX6_learnt_8 : decode cX6_learnt 8 = .ok (.imul, 1) := dk_104 (dk_at dksX6_learnt_0 8 rfl rfl)
theorem dX6_learnt_9 : decode cX6_learnt 9 = .ok (.bipush 8, 2) := dk_16 8 (dk_at dksX6_learnt_0 9 rfl rfl)
theorem dX6_learnt_11 : decode cX6_learnt 11 = .ok (.idiv, 1) := dk_108 (dk_at dksX6_learnt_0 11 rfl rfl)
theorem dX6_learnt_12 : decode cX6_learnt 12 = .ok (.iadd, 1) := dk_96 (dk_at dksX6_learnt_0 12 rfl rfl)
theorem dX6_learnt_13 : decode cX6_learnt 13 = .ok (.iload_n 1, 1) := dk_27 (dk_at dksX6_learnt_0 13 rfl rfl)
theorem dX6_learnt_14 : decode cX6_learnt 14 = .ok (.isub, 1) := dk_100 (dk_at dksX6_learnt_0 14 rfl rfl)
theorem dX6_learnt_15 : decode cX6_learnt 15 = .ok (.bipush 8, 2) := dk_16 8 (dk_at dksX6_learnt_0 15 rfl rfl)
theorem dX6_learnt_17 : decode cX6_learnt 17 = .ok (.idiv, 1) := dk_108 (dk_at dksX6_learnt_0 17 rfl rfl)
theorem dX6_learnt_18 : decode cX6_learnt 18 = .ok (.iadd, 1) := dk_96 (dk_at dksX6_learnt_0 18 rfl rfl)
theorem dX6_learnt_19 : decode cX6_learnt 19 = .ok (.ireturn, 1) := dk_172 (dk_at dksX6_learnt_0 19 rfl rfl)
theorem q105 : (Jvm.Cond.initialized "PumpCrossing$Learners") ∈ lw_all := lw_g (lw_at lw_m1 9 rfl) rfl
theorem q240 : (Jvm.Cond.fieldLinkNest "PumpCrossing$Learners" (32 : Nat) "PumpCrossing$Crossing" "levelMany" "I" "PumpCrossing") ∈ lw_tbl := lw_at lw_m1 144 rfl
theorem q296 : (Jvm.Cond.instantiable "PumpCrossing$Learners" (6 : Nat)) ∈ lw_all := lw_g (lw_at lw_m1 200 rfl) rfl
theorem q298 : (Jvm.Cond.instanceMethod ({ cls := "PumpCrossing$Learners", name := "<init>", desc := "(LPumpCrossing;)V" } : Jvm.MethodName)) ∈ lw_all := lw_g (lw_at lw_m1 202 rfl) rfl
theorem q299 : (Jvm.Cond.code ({ cls := "PumpCrossing$Learners", name := "<init>", desc := "(LPumpCrossing;)V" } : Jvm.MethodName) prog_12_method_1_code (2 : Nat) (Option.none : Option Jvm.ClassFile.FieldType)) ∈ lw_all := lw_g (lw_at lw_m1 203 rfl) rfl
theorem q300 : (Jvm.Cond.methodLink "PumpCrossing$Learners" (9 : Nat) ({ cls := "java/lang/Object", name := "<init>", desc := "()V" } : Jvm.MethodName)) ∈ lw_all := lw_g (lw_at lw_m1 204 rfl) rfl
theorem q301 : (Jvm.Cond.classLink "PumpCrossing$Learners" (15 : Nat) "[[I") ∈ lw_all := lw_g (lw_at lw_m1 205 rfl) rfl
theorem q302 : (Jvm.Cond.fieldLink "PumpCrossing$Learners" (17 : Nat) "PumpCrossing$Learners" "tableA" "[[I") ∈ lw_all := lw_g (lw_at lw_m1 206 rfl) rfl
theorem q303 : (Jvm.Cond.fieldLink "PumpCrossing$Learners" (20 : Nat) "PumpCrossing$Learners" "tableB" "[[I") ∈ lw_all := lw_g (lw_at lw_m1 207 rfl) rfl
theorem q305 : (Jvm.Cond.fieldLink "PumpCrossing$Learners" (24 : Nat) "PumpCrossing$Learners" "x" "I") ∈ lw_all := lw_g (lw_at lw_m1 209 rfl) rfl
theorem q306 : (Jvm.Cond.fieldLink "PumpCrossing$Learners" (45 : Nat) "PumpCrossing$Learners" "atA" "I") ∈ lw_all := lw_g (lw_at lw_m1 210 rfl) rfl
theorem q307 : (Jvm.Cond.fieldLink "PumpCrossing$Learners" (48 : Nat) "PumpCrossing$Learners" "atB" "I") ∈ lw_all := lw_g (lw_at lw_m1 211 rfl) rfl
theorem q308 : (Jvm.Cond.fieldLink "PumpCrossing$Learners" (3 : Nat) "PumpCrossing$Learners" "this$0" "LPumpCrossing;") ∈ lw_all := lw_g (lw_at lw_m1 212 rfl) rfl
theorem q309 : (Jvm.Cond.laysFinal "PumpCrossing$Learners" "PumpCrossing$Learners" "tableA" "[[I") ∈ lw_all := lw_g (lw_at lw_m1 213 rfl) rfl
theorem q310 : (Jvm.Cond.soleField "PumpCrossing$Learners" "tableA") ∈ lw_all := lw_g (lw_at lw_m1 214 rfl) rfl
theorem q311 : (Jvm.Cond.laysFinal "PumpCrossing$Learners" "PumpCrossing$Learners" "tableB" "[[I") ∈ lw_all := lw_g (lw_at lw_m1 215 rfl) rfl
theorem q312 : (Jvm.Cond.soleField "PumpCrossing$Learners" "tableB") ∈ lw_all := lw_g (lw_at lw_m1 216 rfl) rfl
theorem q313 : (Jvm.Cond.lays "PumpCrossing$Learners" "PumpCrossing$Learners" "x" "I") ∈ lw_all := lw_g (lw_at lw_m1 217 rfl) rfl
theorem q314 : (Jvm.Cond.soleField "PumpCrossing$Learners" "x") ∈ lw_all := lw_g (lw_at lw_m1 218 rfl) rfl
theorem q315 : (Jvm.Cond.lays "PumpCrossing$Learners" "PumpCrossing$Learners" "atA" "I") ∈ lw_all := lw_g (lw_at lw_m1 219 rfl) rfl
theorem q316 : (Jvm.Cond.soleField "PumpCrossing$Learners" "atA") ∈ lw_all := lw_g (lw_at lw_m1 220 rfl) rfl
theorem q317 : (Jvm.Cond.lays "PumpCrossing$Learners" "PumpCrossing$Learners" "atB" "I") ∈ lw_all := lw_g (lw_at lw_m1 221 rfl) rfl
theorem q318 : (Jvm.Cond.soleField "PumpCrossing$Learners" "atB") ∈ lw_all := lw_g (lw_at lw_m1 222 rfl) rfl
theorem q319 : (Jvm.Cond.laysFinal "PumpCrossing$Learners" "PumpCrossing$Learners" "this$0" "LPumpCrossing;") ∈ lw_all := lw_g (lw_at lw_m1 223 rfl) rfl
theorem q320 : (Jvm.Cond.soleField "PumpCrossing$Learners" "this$0") ∈ lw_all := lw_g (lw_at lw_m1 224 rfl) rfl
theorem q321 : (Jvm.Cond.superclass "PumpCrossing$Learners" "java/lang/Object") ∈ lw_all := lw_g (lw_at lw_m1 225 rfl) rfl
theorem q336 : (Jvm.Cond.fieldLinkNest "PumpCrossing$Learners" (28 : Nat) "PumpCrossing" "now" "LPumpCrossing$Crossing;" "PumpCrossing") ∈ lw_tbl := lw_at lw_m2 0 rfl
theorem q350 : (Jvm.Cond.fieldLinkNest "PumpCrossing$Learners" (55 : Nat) "PumpCrossing" "gainA" "[[I" "PumpCrossing") ∈ lw_tbl := lw_at lw_m2 14 rfl
theorem q352 : (Jvm.Cond.fieldLinkNest "PumpCrossing$Learners" (62 : Nat) "PumpCrossing" "gainB" "[[I" "PumpCrossing") ∈ lw_tbl := lw_at lw_m2 16 rfl
theorem q688 : (Jvm.Cond.selects "PumpCrossing$Learners" ({ cls := "java/lang/Object", name := "getClass", desc := "()Ljava/lang/Class;" } : Jvm.MethodName) ({ cls := "java/lang/Object", name := "getClass", desc := "()Ljava/lang/Class;" } : Jvm.MethodName)) ∈ lw_all := lw_g (lw_at lw_m3 112 rfl) rfl
theorem q1636 : (Jvm.Cond.instanceMethod ({ cls := "PumpCrossing$Learners", name := "goes", desc := "(II)I" } : Jvm.MethodName)) ∈ lw_all := lw_g (lw_at lw_m7 100 rfl) rfl
theorem q1637 : (Jvm.Cond.selects "PumpCrossing$Learners" ({ cls := "PumpCrossing$Learners", name := "goes", desc := "(II)I" } : Jvm.MethodName) ({ cls := "PumpCrossing$Learners", name := "goes", desc := "(II)I" } : Jvm.MethodName)) ∈ lw_all := lw_g (lw_at lw_m7 101 rfl) rfl
theorem q1638 : (Jvm.Cond.code ({ cls := "PumpCrossing$Learners", name := "goes", desc := "(II)I" } : Jvm.MethodName) prog_12_method_6_code (9 : Nat) (Option.some Jvm.ClassFile.FieldType.int)) ∈ lw_all := lw_g (lw_at lw_m7 102 rfl) rfl
theorem q1639 : (Jvm.Cond.methodLink "PumpCrossing$Learners" (51 : Nat) ({ cls := "PumpCrossing$Learners", name := "takes", desc := "([II)I" } : Jvm.MethodName)) ∈ lw_all := lw_g (lw_at lw_m7 103 rfl) rfl
theorem q1640 : (Jvm.Cond.privateMethod ({ cls := "PumpCrossing$Learners", name := "takes", desc := "([II)I" } : Jvm.MethodName)) ∈ lw_tbl := lw_at lw_m7 104 rfl
theorem q1641 : (Jvm.Cond.instanceMethod ({ cls := "PumpCrossing$Learners", name := "takes", desc := "([II)I" } : Jvm.MethodName)) ∈ lw_all := lw_g (lw_at lw_m7 105 rfl) rfl
theorem q1642 : (Jvm.Cond.code ({ cls := "PumpCrossing$Learners", name := "takes", desc := "([II)I" } : Jvm.MethodName) prog_12_method_4_code (3 : Nat) (Option.some Jvm.ClassFile.FieldType.int)) ∈ lw_all := lw_g (lw_at lw_m7 106 rfl) rfl
theorem q1643 : (Jvm.Cond.methodLink "PumpCrossing$Learners" (37 : Nat) ({ cls := "PumpCrossing$Learners", name := "draw", desc := "()I" } : Jvm.MethodName)) ∈ lw_all := lw_g (lw_at lw_m7 107 rfl) rfl
theorem q1644 : (Jvm.Cond.privateMethod ({ cls := "PumpCrossing$Learners", name := "draw", desc := "()I" } : Jvm.MethodName)) ∈ lw_tbl := lw_at lw_m7 108 rfl
theorem q1645 : (Jvm.Cond.instanceMethod ({ cls := "PumpCrossing$Learners", name := "draw", desc := "()I" } : Jvm.MethodName)) ∈ lw_all := lw_g (lw_at lw_m7 109 rfl) rfl
theorem q1646 : (Jvm.Cond.code ({ cls := "PumpCrossing$Learners", name := "draw", desc := "()I" } : Jvm.MethodName) prog_12_method_2_code (1 : Nat) (Option.some Jvm.ClassFile.FieldType.int)) ∈ lw_all := lw_g (lw_at lw_m7 110 rfl) rfl
theorem q1647 : (Jvm.Cond.constant "PumpCrossing$Learners" (23 : Nat) (1103515245 : Int32)) ∈ lw_all := lw_g (lw_at lw_m7 111 rfl) rfl
theorem q1648 : (Jvm.Cond.methodLink "PumpCrossing$Learners" (41 : Nat) ({ cls := "PumpCrossing$Learners", name := "greatest", desc := "([I)I" } : Jvm.MethodName)) ∈ lw_all := lw_g (lw_at lw_m7 112 rfl) rfl
theorem q1649 : (Jvm.Cond.privateMethod ({ cls := "PumpCrossing$Learners", name := "greatest", desc := "([I)I" } : Jvm.MethodName)) ∈ lw_tbl := lw_at lw_m7 113 rfl
theorem q1650 : (Jvm.Cond.instanceMethod ({ cls := "PumpCrossing$Learners", name := "greatest", desc := "([I)I" } : Jvm.MethodName)) ∈ lw_all := lw_g (lw_at lw_m7 114 rfl) rfl
theorem q1651 : (Jvm.Cond.code ({ cls := "PumpCrossing$Learners", name := "greatest", desc := "([I)I" } : Jvm.MethodName) prog_12_method_3_code (4 : Nat) (Option.some Jvm.ClassFile.FieldType.int)) ∈ lw_all := lw_g (lw_at lw_m7 115 rfl) rfl
theorem q1652 : (Jvm.Cond.methodLink "PumpCrossing$Learners" (58 : Nat) ({ cls := "PumpCrossing$Learners", name := "learnt", desc := "(III)I" } : Jvm.MethodName)) ∈ lw_all := lw_g (lw_at lw_m7 116 rfl) rfl
theorem q1653 : (Jvm.Cond.privateMethod ({ cls := "PumpCrossing$Learners", name := "learnt", desc := "(III)I" } : Jvm.MethodName)) ∈ lw_tbl := lw_at lw_m7 117 rfl
theorem q1654 : (Jvm.Cond.instanceMethod ({ cls := "PumpCrossing$Learners", name := "learnt", desc := "(III)I" } : Jvm.MethodName)) ∈ lw_all := lw_g (lw_at lw_m7 118 rfl) rfl
theorem q1655 : (Jvm.Cond.code ({ cls := "PumpCrossing$Learners", name := "learnt", desc := "(III)I" } : Jvm.MethodName) prog_12_method_5_code (4 : Nat) (Option.some Jvm.ClassFile.FieldType.int)) ∈ lw_all := lw_g (lw_at lw_m7 119 rfl) rfl
theorem q2417 : (Jvm.Cond.castable "PumpCrossing$Learners" "java/lang/Object") ∈ lw_tbl := lw_at lw_m10 161 rfl
theorem in_X6 : ∀ w ∈ wsX60, w ∈ lw_all := lw_in wsX60 [309, 311, 313, 315, 317, 319] (by decide +kernel) (by decide +kernel)
/-! PumpCrossing$Tray -/
set_option maxRecDepth 100000
def RX7 : String := "PumpCrossing$Tray"
def TX7 : u_T := fun k => match k with
  | _ => ("PumpCrossing$Tray", "row", "Ljava/lang/Object;", false)
def tyX7 : Nat → FieldType := fun k => match k with
  | _ => .object "java/lang/Object"
abbrev wsX70 : List Cond := u_ws RX7 TX7 1
theorem nmX7 : ∀ a, a < 1 → ∀ b, b < 1 → a ≠ b → (TX7 a).2.1 ≠ (TX7 b).2.1 := by decide +kernel
theorem tyX7_ok : ∀ k, k < 1 → parseFieldDescriptor (TX7 k).2.2.1 = some (tyX7 k) := by decide +kernel
abbrev cX7_init : ByteArray := prog_25_method_1_code
def yX7_init : MethodName := ⟨RX7, "<init>", "()V"⟩
theorem dX7_init_0 : decode cX7_init 0 = .ok (.aload_n 0, 1) := by decide +kernel
theorem dX7_init_1 : decode cX7_init 1 = .ok (.invokespecial 1, 3) := by decide +kernel
theorem dX7_init_4 : decode cX7_init 4 = .ok (.return_, 1) := by decide +kernel
abbrev cX7_size : ByteArray := prog_25_method_5_code
def yX7_size : MethodName := ⟨RX7, "size", "()I"⟩
def dkwX7_size_2 : List UInt8 := [153, 0, 12, 42, 180, 0, 7, 192, 0, 17, 190, 172, 42, 180, 0, 7, 192, 0, 19, 190, 172]
abbrev dktX7_size_2 : List UInt8 := dkwX7_size_2 ++ []
def dkwX7_size_1 : List UInt8 := [193, 0, 15, 153, 0, 12, 42, 180, 0, 7, 192, 0, 15, 190, 172, 42, 180, 0, 7, 193, 0, 17]
abbrev dktX7_size_1 : List UInt8 := dkwX7_size_1 ++ dktX7_size_2
def dkwX7_size_0 : List UInt8 := [42, 180, 0, 7, 193, 0, 13, 153, 0, 12, 42, 180, 0, 7, 192, 0, 13, 190, 172, 42, 180, 0, 7]
abbrev dktX7_size_0 : List UInt8 := dkwX7_size_0 ++ dktX7_size_1
theorem dksX7_size_0 : cX7_size.data.toList.drop 0 = dktX7_size_0 := by decide +kernel
theorem dksX7_size_1 : cX7_size.data.toList.drop 23 = dktX7_size_1 := dk_seg dksX7_size_0 23 rfl rfl
theorem dksX7_size_2 : cX7_size.data.toList.drop 45 = dktX7_size_2 := dk_seg dksX7_size_1 22 rfl rfl
theorem dX7_size_0 : decode cX7_size 0 = .ok (.aload_n 0, 1) := dk_42 (dk_at dksX7_size_0 0 rfl rfl)
theorem dX7_size_1 : decode cX7_size 1 = .ok (.getfield 7, 3) := dk_180 0 7 (dk_at dksX7_size_0 1 rfl rfl)
theorem dX7_size_4 : decode cX7_size 4 = .ok (.instanceof 13, 3) := dk_193 0 13 (dk_at dksX7_size_0 4 rfl rfl)
theorem dX7_size_7 : decode cX7_size 7 = .ok (.ifCond .eq 12, 3) := dk_153 0 12 (dk_at dksX7_size_0 7 rfl rfl)
theorem dX7_size_10 : decode cX7_size 10 = .ok (.aload_n 0, 1) := dk_42 (dk_at dksX7_size_0 10 rfl rfl)
theorem dX7_size_11 : decode cX7_size 11 = .ok (.getfield 7, 3) := dk_180 0 7 (dk_at dksX7_size_0 11 rfl rfl)
theorem dX7_size_14 : decode cX7_size 14 = .ok (.checkcast 13, 3) := dk_192 0 13 (dk_at dksX7_size_0 14 rfl rfl)
theorem dX7_size_17 : decode cX7_size 17 = .ok (.arraylength, 1) := dk_190 (dk_at dksX7_size_0 17 rfl rfl)
theorem dX7_size_18 : decode cX7_size 18 = .ok (.ireturn, 1) := dk_172 (dk_at dksX7_size_0 18 rfl rfl)
theorem dX7_size_19 : decode cX7_size 19 = .ok (.aload_n 0, 1) := dk_42 (dk_at dksX7_size_0 19 rfl rfl)
theorem dX7_size_20 : decode cX7_size 20 = .ok (.getfield 7, 3) := dk_180 0 7 (dk_at dksX7_size_0 20 rfl rfl)
theorem dX7_size_23 : decode cX7_size 23 = .ok (.instanceof 15, 3) := dk_193 0 15 (dk_at dksX7_size_1 0 rfl rfl)
theorem dX7_size_26 : decode cX7_size 26 = .ok (.ifCond .eq 12, 3) := dk_153 0 12 (dk_at dksX7_size_1 3 rfl rfl)
theorem dX7_size_29 : decode cX7_size 29 = .ok (.aload_n 0, 1) := dk_42 (dk_at dksX7_size_1 6 rfl rfl)
theorem dX7_size_30 : decode cX7_size 30 = .ok (.getfield 7, 3) := dk_180 0 7 (dk_at dksX7_size_1 7 rfl rfl)
theorem dX7_size_33 : decode cX7_size 33 = .ok (.checkcast 15, 3) := dk_192 0 15 (dk_at dksX7_size_1 10 rfl rfl)
theorem dX7_size_36 : decode cX7_size 36 = .ok (.arraylength, 1) := dk_190 (dk_at dksX7_size_1 13 rfl rfl)
theorem dX7_size_37 : decode cX7_size 37 = .ok (.ireturn, 1) := dk_172 (dk_at dksX7_size_1 14 rfl rfl)
theorem dX7_size_38 : decode cX7_size 38 = .ok (.aload_n 0, 1) := dk_42 (dk_at dksX7_size_1 15 rfl rfl)
theorem dX7_size_39 : decode cX7_size 39 = .ok (.getfield 7, 3) := dk_180 0 7 (dk_at dksX7_size_1 16 rfl rfl)
theorem dX7_size_42 : decode cX7_size 42 = .ok (.instanceof 17, 3) := dk_193 0 17 (dk_at dksX7_size_1 19 rfl rfl)
theorem dX7_size_45 : decode cX7_size 45 = .ok (.ifCond .eq 12, 3) := dk_153 0 12 (dk_at dksX7_size_2 0 rfl rfl)
theorem dX7_size_48 : decode cX7_size 48 = .ok (.aload_n 0, 1) := dk_42 (dk_at dksX7_size_2 3 rfl rfl)
theorem dX7_size_49 : decode cX7_size 49 = .ok (.getfield 7, 3) := dk_180 0 7 (dk_at dksX7_size_2 4 rfl rfl)
theorem dX7_size_52 : decode cX7_size 52 = .ok (.checkcast 17, 3) := dk_192 0 17 (dk_at dksX7_size_2 7 rfl rfl)
theorem dX7_size_55 : decode cX7_size 55 = .ok (.arraylength, 1) := dk_190 (dk_at dksX7_size_2 10 rfl rfl)
theorem dX7_size_56 : decode cX7_size 56 = .ok (.ireturn, 1) := dk_172 (dk_at dksX7_size_2 11 rfl rfl)
theorem dX7_size_57 : decode cX7_size 57 = .ok (.aload_n 0, 1) := dk_42 (dk_at dksX7_size_2 12 rfl rfl)
theorem dX7_size_58 : decode cX7_size 58 = .ok (.getfield 7, 3) := dk_180 0 7 (dk_at dksX7_size_2 13 rfl rfl)
theorem dX7_size_61 : decode cX7_size 61 = .ok (.checkcast 19, 3) := dk_192 0 19 (dk_at dksX7_size_2 16 rfl rfl)
theorem dX7_size_64 : decode cX7_size 64 = .ok (.arraylength, 1) := dk_190 (dk_at dksX7_size_2 19 rfl rfl)
theorem dX7_size_65 : decode cX7_size 65 = .ok (.ireturn, 1) := dk_172 (dk_at dksX7_size_2 20 rfl rfl)
abbrev cX7_isWithin : ByteArray := prog_25_method_6_code
def yX7_isWithin : MethodName := ⟨RX7, "isWithin", "(I)Z"⟩
def dkwX7_isWithin_1 : List UInt8 := [3, 172, 132, 2, 1, 167, 255, 229, 4, 172]
abbrev dktX7_isWithin_1 : List UInt8 := dkwX7_isWithin_1 ++ []
def dkwX7_isWithin_0 : List UInt8 := [3, 61, 28, 42, 182, 0, 21, 162, 0, 25, 42, 28, 182, 0, 25, 9, 27, 133, 184, 0, 29, 154, 0, 5]
abbrev dktX7_isWithin_0 : List UInt8 := dkwX7_isWithin_0 ++ dktX7_isWithin_1
theorem dksX7_isWithin_0 : cX7_isWithin.data.toList.drop 0 = dktX7_isWithin_0 := by decide +kernel
theorem dksX7_isWithin_1 : cX7_isWithin.data.toList.drop 24 = dktX7_isWithin_1 := dk_seg dksX7_isWithin_0 24 rfl rfl
theorem dX7_isWithin_0 : decode cX7_isWithin 0 = .ok (.iconst 0, 1) := dk_3 (dk_at dksX7_isWithin_0 0 rfl rfl)
theorem dX7_isWithin_1 : decode cX7_isWithin 1 = .ok (.istore_n 2, 1) := dk_61 (dk_at dksX7_isWithin_0 1 rfl rfl)
theorem dX7_isWithin_2 : decode cX7_isWithin 2 = .ok (.iload_n 2, 1) := dk_28 (dk_at dksX7_isWithin_0 2 rfl rfl)
theorem dX7_isWithin_3 : decode cX7_isWithin 3 = .ok (.aload_n 0, 1) := dk_42 (dk_at dksX7_isWithin_0 3 rfl rfl)
theorem dX7_isWithin_4 : decode cX7_isWithin 4 = .ok (.invokevirtual 21, 3) := dk_182 0 21 (dk_at dksX7_isWithin_0 4 rfl rfl)
theorem dX7_isWithin_7 : decode cX7_isWithin 7 = .ok (.if_icmp .ge 25, 3) := dk_162 0 25 (dk_at dksX7_isWithin_0 7 rfl rfl)
theorem dX7_isWithin_10 : decode cX7_isWithin 10 = .ok (.aload_n 0, 1) := dk_42 (dk_at dksX7_isWithin_0 10 rfl rfl)
theorem dX7_isWithin_11 : decode cX7_isWithin 11 = .ok (.iload_n 2, 1) := dk_28 (dk_at dksX7_isWithin_0 11 rfl rfl)
theorem dX7_isWithin_12 : decode cX7_isWithin 12 = .ok (.invokevirtual 25, 3) := dk_182 0 25 (dk_at dksX7_isWithin_0 12 rfl rfl)
theorem dX7_isWithin_15 : decode cX7_isWithin 15 = .ok (.lconst 0, 1) := dk_9 (dk_at dksX7_isWithin_0 15 rfl rfl)
theorem dX7_isWithin_16 : decode cX7_isWithin 16 = .ok (.iload_n 1, 1) := dk_27 (dk_at dksX7_isWithin_0 16 rfl rfl)
theorem dX7_isWithin_17 : decode cX7_isWithin 17 = .ok (.i2l, 1) := dk_133 (dk_at dksX7_isWithin_0 17 rfl rfl)
theorem dX7_isWithin_18 : decode cX7_isWithin 18 = .ok (.invokestatic 29, 3) := dk_184 0 29 (dk_at dksX7_isWithin_0 18 rfl rfl)
theorem dX7_isWithin_21 : decode cX7_isWithin 21 = .ok (.ifCond .ne 5, 3) := dk_154 0 5 (dk_at dksX7_isWithin_0 21 rfl rfl)
theorem dX7_isWithin_24 : decode cX7_isWithin 24 = .ok (.iconst 0, 1) := dk_3 (dk_at dksX7_isWithin_1 0 rfl rfl)
theorem dX7_isWithin_25 : decode cX7_isWithin 25 = .ok (.ireturn, 1) := dk_172 (dk_at dksX7_isWithin_1 1 rfl rfl)
theorem dX7_isWithin_26 : decode cX7_isWithin 26 = .ok (.iinc 2 1, 3) := dk_132 2 1 (dk_at dksX7_isWithin_1 2 rfl rfl)
theorem dX7_isWithin_29 : decode cX7_isWithin 29 = .ok (.goto (-27), 3) := dk_167 255 229 (dk_at dksX7_isWithin_1 5 rfl rfl)
theorem dX7_isWithin_32 : decode cX7_isWithin 32 = .ok (.iconst 1, 1) := dk_4 (dk_at dksX7_isWithin_1 8 rfl rfl)
theorem dX7_isWithin_33 : decode cX7_isWithin 33 = .ok (.ireturn, 1) := dk_172 (dk_at dksX7_isWithin_1 9 rfl rfl)
abbrev cX7_at : ByteArray := prog_25_method_3_code
def yX7_at : MethodName := ⟨RX7, "at", "(I)J"⟩
def dkwX7_at_3 : List UInt8 := [27, 47, 173]
abbrev dktX7_at_3 : List UInt8 := dkwX7_at_3 ++ []
def dkwX7_at_2 : List UInt8 := [193, 0, 17, 153, 0, 14, 42, 180, 0, 7, 192, 0, 17, 27, 46, 133, 173, 42, 180, 0, 7, 192, 0, 19]
abbrev dktX7_at_2 : List UInt8 := dkwX7_at_2 ++ dktX7_at_3
def dkwX7_at_1 : List UInt8 := [180, 0, 7, 193, 0, 15, 153, 0, 14, 42, 180, 0, 7, 192, 0, 15, 27, 53, 133, 173, 42, 180, 0, 7]
abbrev dktX7_at_1 : List UInt8 := dkwX7_at_1 ++ dktX7_at_2
def dkwX7_at_0 : List UInt8 := [42, 180, 0, 7, 193, 0, 13, 153, 0, 14, 42, 180, 0, 7, 192, 0, 13, 27, 51, 133, 173, 42]
abbrev dktX7_at_0 : List UInt8 := dkwX7_at_0 ++ dktX7_at_1
theorem dksX7_at_0 : cX7_at.data.toList.drop 0 = dktX7_at_0 := by decide +kernel
theorem dksX7_at_1 : cX7_at.data.toList.drop 22 = dktX7_at_1 := dk_seg dksX7_at_0 22 rfl rfl
theorem dksX7_at_2 : cX7_at.data.toList.drop 46 = dktX7_at_2 := dk_seg dksX7_at_1 24 rfl rfl
theorem dksX7_at_3 : cX7_at.data.toList.drop 70 = dktX7_at_3 := dk_seg dksX7_at_2 24 rfl rfl
theorem dX7_at_0 : decode cX7_at 0 = .ok (.aload_n 0, 1) := dk_42 (dk_at dksX7_at_0 0 rfl rfl)
theorem dX7_at_1 : decode cX7_at 1 = .ok (.getfield 7, 3) := dk_180 0 7 (dk_at dksX7_at_0 1 rfl rfl)
theorem dX7_at_4 : decode cX7_at 4 = .ok (.instanceof 13, 3) := dk_193 0 13 (dk_at dksX7_at_0 4 rfl rfl)
theorem dX7_at_7 : decode cX7_at 7 = .ok (.ifCond .eq 14, 3) := dk_153 0 14 (dk_at dksX7_at_0 7 rfl rfl)
theorem dX7_at_10 : decode cX7_at 10 = .ok (.aload_n 0, 1) := dk_42 (dk_at dksX7_at_0 10 rfl rfl)
theorem dX7_at_11 : decode cX7_at 11 = .ok (.getfield 7, 3) := dk_180 0 7 (dk_at dksX7_at_0 11 rfl rfl)
theorem dX7_at_14 : decode cX7_at 14 = .ok (.checkcast 13, 3) := dk_192 0 13 (dk_at dksX7_at_0 14 rfl rfl)
theorem dX7_at_17 : decode cX7_at 17 = .ok (.iload_n 1, 1) := dk_27 (dk_at dksX7_at_0 17 rfl rfl)
theorem dX7_at_18 : decode cX7_at 18 = .ok (.baload, 1) := dk_51 (dk_at dksX7_at_0 18 rfl rfl)
theorem dX7_at_19 : decode cX7_at 19 = .ok (.i2l, 1) := dk_133 (dk_at dksX7_at_0 19 rfl rfl)
theorem dX7_at_20 : decode cX7_at 20 = .ok (.lreturn, 1) := dk_173 (dk_at dksX7_at_0 20 rfl rfl)
theorem dX7_at_21 : decode cX7_at 21 = .ok (.aload_n 0, 1) := dk_42 (dk_at dksX7_at_0 21 rfl rfl)
theorem dX7_at_22 : decode cX7_at 22 = .ok (.getfield 7, 3) := dk_180 0 7 (dk_at dksX7_at_1 0 rfl rfl)
theorem dX7_at_25 : decode cX7_at 25 = .ok (.instanceof 15, 3) := dk_193 0 15 (dk_at dksX7_at_1 3 rfl rfl)
theorem dX7_at_28 : decode cX7_at 28 = .ok (.ifCond .eq 14, 3) := dk_153 0 14 (dk_at dksX7_at_1 6 rfl rfl)
theorem dX7_at_31 : decode cX7_at 31 = .ok (.aload_n 0, 1) := dk_42 (dk_at dksX7_at_1 9 rfl rfl)
theorem dX7_at_32 : decode cX7_at 32 = .ok (.getfield 7, 3) := dk_180 0 7 (dk_at dksX7_at_1 10 rfl rfl)
theorem dX7_at_35 : decode cX7_at 35 = .ok (.checkcast 15, 3) := dk_192 0 15 (dk_at dksX7_at_1 13 rfl rfl)
theorem dX7_at_38 : decode cX7_at 38 = .ok (.iload_n 1, 1) := dk_27 (dk_at dksX7_at_1 16 rfl rfl)
theorem dX7_at_39 : decode cX7_at 39 = .ok (.saload, 1) := dk_53 (dk_at dksX7_at_1 17 rfl rfl)
theorem dX7_at_40 : decode cX7_at 40 = .ok (.i2l, 1) := dk_133 (dk_at dksX7_at_1 18 rfl rfl)
theorem dX7_at_41 : decode cX7_at 41 = .ok (.lreturn, 1) := dk_173 (dk_at dksX7_at_1 19 rfl rfl)
theorem dX7_at_42 : decode cX7_at 42 = .ok (.aload_n 0, 1) := dk_42 (dk_at dksX7_at_1 20 rfl rfl)
theorem dX7_at_43 : decode cX7_at 43 = .ok (.getfield 7, 3) := dk_180 0 7 (dk_at dksX7_at_1 21 rfl rfl)
theorem dX7_at_46 : decode cX7_at 46 = .ok (.instanceof 17, 3) := dk_193 0 17 (dk_at dksX7_at_2 0 rfl rfl)
theorem dX7_at_49 : decode cX7_at 49 = .ok (.ifCond .eq 14, 3) := dk_153 0 14 (dk_at dksX7_at_2 3 rfl rfl)
theorem dX7_at_52 : decode cX7_at 52 = .ok (.aload_n 0, 1) := dk_42 (dk_at dksX7_at_2 6 rfl rfl)
theorem dX7_at_53 : decode cX7_at 53 = .ok (.getfield 7, 3) := dk_180 0 7 (dk_at dksX7_at_2 7 rfl rfl)
theorem dX7_at_56 : decode cX7_at 56 = .ok (.checkcast 17, 3) := dk_192 0 17 (dk_at dksX7_at_2 10 rfl rfl)
theorem dX7_at_59 : decode cX7_at 59 = .ok (.iload_n 1, 1) := dk_27 (dk_at dksX7_at_2 13 rfl rfl)
theorem dX7_at_60 : decode cX7_at 60 = .ok (.iaload, 1) := dk_46 (dk_at dksX7_at_2 14 rfl rfl)
theorem dX7_at_61 : decode cX7_at 61 = .ok (.i2l, 1) := dk_133 (dk_at dksX7_at_2 15 rfl rfl)
theorem dX7_at_62 : decode cX7_at 62 = .ok (.lreturn, 1) := dk_173 (dk_at dksX7_at_2 16 rfl rfl)
theorem dX7_at_63 : decode cX7_at 63 = .ok (.aload_n 0, 1) := dk_42 (dk_at dksX7_at_2 17 rfl rfl)
theorem dX7_at_64 : decode cX7_at 64 = .ok (.getfield 7, 3) := dk_180 0 7 (dk_at dksX7_at_2 18 rfl rfl)
theorem dX7_at_67 : decode cX7_at 67 = .ok (.checkcast 19, 3) := dk_192 0 19 (dk_at dksX7_at_2 21 rfl rfl)
theorem dX7_at_70 : decode cX7_at 70 = .ok (.iload_n 1, 1) := dk_27 (dk_at dksX7_at_3 0 rfl rfl)
theorem dX7_at_71 : decode cX7_at 71 = .ok (.laload, 1) := dk_47 (dk_at dksX7_at_3 1 rfl rfl)
theorem dX7_at_72 : decode cX7_at 72 = .ok (.lreturn, 1) := dk_173 (dk_at dksX7_at_3 2 rfl rfl)
abbrev cX7_make : ByteArray := prog_25_method_2_code
def yX7_make : MethodName := ⟨RX7, "make", "(II)V"⟩
def dkwX7_make_1 : List UInt8 := [160, 0, 9, 28, 188, 10, 167, 0, 6, 28, 188, 11, 181, 0, 7, 177]
abbrev dktX7_make_1 : List UInt8 := dkwX7_make_1 ++ []
def dkwX7_make_0 : List UInt8 := [42, 27, 154, 0, 9, 28, 188, 8, 167, 0, 28, 27, 4, 160, 0, 9, 28, 188, 9, 167, 0, 17, 27, 5]
abbrev dktX7_make_0 : List UInt8 := dkwX7_make_0 ++ dktX7_make_1
theorem dksX7_make_0 : cX7_make.data.toList.drop 0 = dktX7_make_0 := by decide +kernel
theorem dksX7_make_1 : cX7_make.data.toList.drop 24 = dktX7_make_1 := dk_seg dksX7_make_0 24 rfl rfl
theorem dX7_make_0 : decode cX7_make 0 = .ok (.aload_n 0, 1) := dk_42 (dk_at dksX7_make_0 0 rfl rfl)
theorem dX7_make_1 : decode cX7_make 1 = .ok (.iload_n 1, 1) := dk_27 (dk_at dksX7_make_0 1 rfl rfl)
theorem dX7_make_2 : decode cX7_make 2 = .ok (.ifCond .ne 9, 3) := dk_154 0 9 (dk_at dksX7_make_0 2 rfl rfl)
theorem dX7_make_5 : decode cX7_make 5 = .ok (.iload_n 2, 1) := dk_28 (dk_at dksX7_make_0 5 rfl rfl)
theorem dX7_make_6 : decode cX7_make 6 = .ok (.newarray .byte, 2) := dk_188_8 (dk_at dksX7_make_0 6 rfl rfl)
theorem dX7_make_8 : decode cX7_make 8 = .ok (.goto 28, 3) := dk_167 0 28 (dk_at dksX7_make_0 8 rfl rfl)
theorem dX7_make_11 : decode cX7_make 11 = .ok (.iload_n 1, 1) := dk_27 (dk_at dksX7_make_0 11 rfl rfl)
theorem dX7_make_12 : decode cX7_make 12 = .ok (.iconst 1, 1) := dk_4 (dk_at dksX7_make_0 12 rfl rfl)
theorem dX7_make_13 : decode cX7_make 13 = .ok (.if_icmp .ne 9, 3) := dk_160 0 9 (dk_at dksX7_make_0 13 rfl rfl)
theorem dX7_make_16 : decode cX7_make 16 = .ok (.iload_n 2, 1) := dk_28 (dk_at dksX7_make_0 16 rfl rfl)
theorem dX7_make_17 : decode cX7_make 17 = .ok (.newarray .short, 2) := dk_188_9 (dk_at dksX7_make_0 17 rfl rfl)
theorem dX7_make_19 : decode cX7_make 19 = .ok (.goto 17, 3) := dk_167 0 17 (dk_at dksX7_make_0 19 rfl rfl)
theorem dX7_make_22 : decode cX7_make 22 = .ok (.iload_n 1, 1) := dk_27 (dk_at dksX7_make_0 22 rfl rfl)
theorem dX7_make_23 : decode cX7_make 23 = .ok (.iconst 2, 1) := dk_5 (dk_at dksX7_make_0 23 rfl rfl)
theorem dX7_make_24 : decode cX7_make 24 = .ok (.if_icmp .ne 9, 3) := dk_160 0 9 (dk_at dksX7_make_1 0 rfl rfl)
theorem dX7_make_27 : decode cX7_make 27 = .ok (.iload_n 2, 1) := dk_28 (dk_at dksX7_make_1 3 rfl rfl)
theorem dX7_make_28 : decode cX7_make 28 = .ok (.newarray .int, 2) := dk_188_10 (dk_at dksX7_make_1 4 rfl rfl)
theorem dX7_make_30 : decode cX7_make 30 = .ok (.goto 6, 3) := dk_167 0 6 (dk_at dksX7_make_1 6 rfl rfl)
theorem dX7_make_33 : decode cX7_make 33 = .ok (.iload_n 2, 1) := dk_28 (dk_at dksX7_make_1 9 rfl rfl)
theorem dX7_make_34 : decode cX7_make 34 = .ok (.newarray .long, 2) := dk_188_11 (dk_at dksX7_make_1 10 rfl rfl)
theorem dX7_make_36 : decode cX7_make 36 = .ok (.putfield 7, 3) := dk_181 0 7 (dk_at dksX7_make_1 12 rfl rfl)
theorem dX7_make_39 : decode cX7_make 39 = .ok (.return_, 1) := dk_177 (dk_at dksX7_make_1 15 rfl rfl)
abbrev cX7_put : ByteArray := prog_25_method_4_code
def yX7_put : MethodName := ⟨RX7, "put", "(IJ)V"⟩
def dkwX7_put_3 : List UInt8 := [79, 167, 0, 13, 42, 180, 0, 7, 192, 0, 19, 27, 32, 80, 177]
abbrev dktX7_put_3 : List UInt8 := dkwX7_put_3 ++ []
def dkwX7_put_2 : List UInt8 := [86, 167, 0, 37, 42, 180, 0, 7, 193, 0, 17, 153, 0, 17, 42, 180, 0, 7, 192, 0, 17, 27, 32, 136]
abbrev dktX7_put_2 : List UInt8 := dkwX7_put_2 ++ dktX7_put_3
def dkwX7_put_1 : List UInt8 := [167, 0, 62, 42, 180, 0, 7, 193, 0, 15, 153, 0, 18, 42, 180, 0, 7, 192, 0, 15, 27, 32, 136, 147]
abbrev dktX7_put_1 : List UInt8 := dkwX7_put_1 ++ dktX7_put_2
def dkwX7_put_0 : List UInt8 := [42, 180, 0, 7, 193, 0, 13, 153, 0, 18, 42, 180, 0, 7, 192, 0, 13, 27, 32, 136, 145, 84]
abbrev dktX7_put_0 : List UInt8 := dkwX7_put_0 ++ dktX7_put_1
theorem dksX7_put_0 : cX7_put.data.toList.drop 0 = dktX7_put_0 := by decide +kernel
theorem dksX7_put_1 : cX7_put.data.toList.drop 22 = dktX7_put_1 := dk_seg dksX7_put_0 22 rfl rfl
theorem dksX7_put_2 : cX7_put.data.toList.drop 46 = dktX7_put_2 := dk_seg dksX7_put_1 24 rfl rfl
theorem dksX7_put_3 : cX7_put.data.toList.drop 70 = dktX7_put_3 := dk_seg dksX7_put_2 24 rfl rfl
theorem dX7_put_0 : decode cX7_put 0 = .ok (.aload_n 0, 1) := dk_42 (dk_at dksX7_put_0 0 rfl rfl)
theorem dX7_put_1 : decode cX7_put 1 = .ok (.getfield 7, 3) := dk_180 0 7 (dk_at dksX7_put_0 1 rfl rfl)
theorem dX7_put_4 : decode cX7_put 4 = .ok (.instanceof 13, 3) := dk_193 0 13 (dk_at dksX7_put_0 4 rfl rfl)
theorem dX7_put_7 : decode cX7_put 7 = .ok (.ifCond .eq 18, 3) := dk_153 0 18 (dk_at dksX7_put_0 7 rfl rfl)
theorem dX7_put_10 : decode cX7_put 10 = .ok (.aload_n 0, 1) := dk_42 (dk_at dksX7_put_0 10 rfl rfl)
theorem dX7_put_11 : decode cX7_put 11 = .ok (.getfield 7, 3) := dk_180 0 7 (dk_at dksX7_put_0 11 rfl rfl)
theorem dX7_put_14 : decode cX7_put 14 = .ok (.checkcast 13, 3) := dk_192 0 13 (dk_at dksX7_put_0 14 rfl rfl)
theorem dX7_put_17 : decode cX7_put 17 = .ok (.iload_n 1, 1) := dk_27 (dk_at dksX7_put_0 17 rfl rfl)
theorem dX7_put_18 : decode cX7_put 18 = .ok (.lload_n 2, 1) := dk_32 (dk_at dksX7_put_0 18 rfl rfl)
theorem dX7_put_19 : decode cX7_put 19 = .ok (.l2i, 1) := dk_136 (dk_at dksX7_put_0 19 rfl rfl)
theorem dX7_put_20 : decode cX7_put 20 = .ok (.i2b, 1) := dk_145 (dk_at dksX7_put_0 20 rfl rfl)
theorem dX7_put_21 : decode cX7_put 21 = .ok (.bastore, 1) := dk_84 (dk_at dksX7_put_0 21 rfl rfl)
theorem dX7_put_22 : decode cX7_put 22 = .ok (.goto 62, 3) := dk_167 0 62 (dk_at dksX7_put_1 0 rfl rfl)
theorem dX7_put_25 : decode cX7_put 25 = .ok (.aload_n 0, 1) := dk_42 (dk_at dksX7_put_1 3 rfl rfl)
theorem dX7_put_26 : decode cX7_put 26 = .ok (.getfield 7, 3) := dk_180 0 7 (dk_at dksX7_put_1 4 rfl rfl)
theorem dX7_put_29 : decode cX7_put 29 = .ok (.instanceof 15, 3) := dk_193 0 15 (dk_at dksX7_put_1 7 rfl rfl)
theorem dX7_put_32 : decode cX7_put 32 = .ok (.ifCond .eq 18, 3) := dk_153 0 18 (dk_at dksX7_put_1 10 rfl rfl)
theorem dX7_put_35 : decode cX7_put 35 = .ok (.aload_n 0, 1) := dk_42 (dk_at dksX7_put_1 13 rfl rfl)
theorem dX7_put_36 : decode cX7_put 36 = .ok (.getfield 7, 3) := dk_180 0 7 (dk_at dksX7_put_1 14 rfl rfl)
theorem dX7_put_39 : decode cX7_put 39 = .ok (.checkcast 15, 3) := dk_192 0 15 (dk_at dksX7_put_1 17 rfl rfl)
theorem dX7_put_42 : decode cX7_put 42 = .ok (.iload_n 1, 1) := dk_27 (dk_at dksX7_put_1 20 rfl rfl)
theorem dX7_put_43 : decode cX7_put 43 = .ok (.lload_n 2, 1) := dk_32 (dk_at dksX7_put_1 21 rfl rfl)
theorem dX7_put_44 : decode cX7_put 44 = .ok (.l2i, 1) := dk_136 (dk_at dksX7_put_1 22 rfl rfl)
theorem dX7_put_45 : decode cX7_put 45 = .ok (.i2s, 1) := dk_147 (dk_at dksX7_put_1 23 rfl rfl)
theorem dX7_put_46 : decode cX7_put 46 = .ok (.sastore, 1) := dk_86 (dk_at dksX7_put_2 0 rfl rfl)
theorem dX7_put_47 : decode cX7_put 47 = .ok (.goto 37, 3) := dk_167 0 37 (dk_at dksX7_put_2 1 rfl rfl)
theorem dX7_put_50 : decode cX7_put 50 = .ok (.aload_n 0, 1) := dk_42 (dk_at dksX7_put_2 4 rfl rfl)
theorem dX7_put_51 : decode cX7_put 51 = .ok (.getfield 7, 3) := dk_180 0 7 (dk_at dksX7_put_2 5 rfl rfl)
theorem dX7_put_54 : decode cX7_put 54 = .ok (.instanceof 17, 3) := dk_193 0 17 (dk_at dksX7_put_2 8 rfl rfl)
theorem dX7_put_57 : decode cX7_put 57 = .ok (.ifCond .eq 17, 3) := dk_153 0 17 (dk_at dksX7_put_2 11 rfl rfl)
theorem dX7_put_60 : decode cX7_put 60 = .ok (.aload_n 0, 1) := dk_42 (dk_at dksX7_put_2 14 rfl rfl)
theorem dX7_put_61 : decode cX7_put 61 = .ok (.getfield 7, 3) := dk_180 0 7 (dk_at dksX7_put_2 15 rfl rfl)
theorem dX7_put_64 : decode cX7_put 64 = .ok (.checkcast 17, 3) := dk_192 0 17 (dk_at dksX7_put_2 18 rfl rfl)
theorem dX7_put_67 : decode cX7_put 67 = .ok (.iload_n 1, 1) := dk_27 (dk_at dksX7_put_2 21 rfl rfl)
theorem dX7_put_68 : decode cX7_put 68 = .ok (.lload_n 2, 1) := dk_32 (dk_at dksX7_put_2 22 rfl rfl)
theorem dX7_put_69 : decode cX7_put 69 = .ok (.l2i, 1) := dk_136 (dk_at dksX7_put_2 23 rfl rfl)
theorem dX7_put_70 : decode cX7_put 70 = .ok (.iastore, 1) := dk_79 (dk_at dksX7_put_3 0 rfl rfl)
theorem dX7_put_71 : decode cX7_put 71 = .ok (.goto 13, 3) := dk_167 0 13 (dk_at dksX7_put_3 1 rfl rfl)
theorem dX7_put_74 : decode cX7_put 74 = .ok (.aload_n 0, 1) := dk_42 (dk_at dksX7_put_3 4 rfl rfl)
theorem dX7_put_75 : decode cX7_put 75 = .ok (.getfield 7, 3) := dk_180 0 7 (dk_at dksX7_put_3 5 rfl rfl)
theorem dX7_put_78 : decode cX7_put 78 = .ok (.checkcast 19, 3) := dk_192 0 19 (dk_at dksX7_put_3 8 rfl rfl)
theorem dX7_put_81 : decode cX7_put 81 = .ok (.iload_n 1, 1) := dk_27 (dk_at dksX7_put_3 11 rfl rfl)
theorem dX7_put_82 : decode cX7_put 82 = .ok (.lload_n 2, 1) := dk_32 (dk_at dksX7_put_3 12 rfl rfl)
theorem dX7_put_83 : decode cX7_put 83 = .ok (.lastore, 1) := dk_80 (dk_at dksX7_put_3 13 rfl rfl)
theorem dX7_put_84 : decode cX7_put 84 = .ok (.return_, 1) := dk_177 (dk_at dksX7_put_3 14 rfl rfl)
theorem q106 : (Jvm.Cond.initialized "PumpCrossing$Tray") ∈ lw_all := lw_g (lw_at lw_m1 10 rfl) rfl
theorem q325 : (Jvm.Cond.instantiable "PumpCrossing$Tray" (1 : Nat)) ∈ lw_all := lw_g (lw_at lw_m1 229 rfl) rfl
theorem q327 : (Jvm.Cond.instanceMethod ({ cls := "PumpCrossing$Tray", name := "<init>", desc := "()V" } : Jvm.MethodName)) ∈ lw_all := lw_g (lw_at lw_m1 231 rfl) rfl
theorem q328 : (Jvm.Cond.code ({ cls := "PumpCrossing$Tray", name := "<init>", desc := "()V" } : Jvm.MethodName) prog_25_method_1_code (1 : Nat) (Option.none : Option Jvm.ClassFile.FieldType)) ∈ lw_all := lw_g (lw_at lw_m1 232 rfl) rfl
theorem q329 : (Jvm.Cond.methodLink "PumpCrossing$Tray" (1 : Nat) ({ cls := "java/lang/Object", name := "<init>", desc := "()V" } : Jvm.MethodName)) ∈ lw_all := lw_g (lw_at lw_m1 233 rfl) rfl
theorem q330 : (Jvm.Cond.fieldLink "PumpCrossing$Tray" (7 : Nat) "PumpCrossing$Tray" "row" "Ljava/lang/Object;") ∈ lw_all := lw_g (lw_at lw_m1 234 rfl) rfl
theorem q331 : (Jvm.Cond.lays "PumpCrossing$Tray" "PumpCrossing$Tray" "row" "Ljava/lang/Object;") ∈ lw_all := lw_g (lw_at lw_m1 235 rfl) rfl
theorem q332 : (Jvm.Cond.soleField "PumpCrossing$Tray" "row") ∈ lw_all := lw_g (lw_at lw_m1 236 rfl) rfl
theorem q333 : (Jvm.Cond.superclass "PumpCrossing$Tray" "java/lang/Object") ∈ lw_all := lw_g (lw_at lw_m1 237 rfl) rfl
theorem q697 : (Jvm.Cond.selects "PumpCrossing$Tray" ({ cls := "java/lang/Object", name := "getClass", desc := "()Ljava/lang/Class;" } : Jvm.MethodName) ({ cls := "java/lang/Object", name := "getClass", desc := "()Ljava/lang/Class;" } : Jvm.MethodName)) ∈ lw_all := lw_g (lw_at lw_m3 121 rfl) rfl
theorem q1702 : (Jvm.Cond.instanceMethod ({ cls := "PumpCrossing$Tray", name := "size", desc := "()I" } : Jvm.MethodName)) ∈ lw_all := lw_g (lw_at lw_m7 166 rfl) rfl
theorem q1703 : (Jvm.Cond.selects "PumpCrossing$Tray" ({ cls := "PumpCrossing$Tray", name := "size", desc := "()I" } : Jvm.MethodName) ({ cls := "PumpCrossing$Tray", name := "size", desc := "()I" } : Jvm.MethodName)) ∈ lw_all := lw_g (lw_at lw_m7 167 rfl) rfl
theorem q1704 : (Jvm.Cond.code ({ cls := "PumpCrossing$Tray", name := "size", desc := "()I" } : Jvm.MethodName) prog_25_method_5_code (1 : Nat) (Option.some Jvm.ClassFile.FieldType.int)) ∈ lw_all := lw_g (lw_at lw_m7 168 rfl) rfl
theorem q1705 : (Jvm.Cond.classLink "PumpCrossing$Tray" (13 : Nat) "[B") ∈ lw_all := lw_g (lw_at lw_m7 169 rfl) rfl
theorem q1706 : (Jvm.Cond.classLink "PumpCrossing$Tray" (15 : Nat) "[S") ∈ lw_all := lw_g (lw_at lw_m7 170 rfl) rfl
theorem q1707 : (Jvm.Cond.classLink "PumpCrossing$Tray" (17 : Nat) "[I") ∈ lw_all := lw_g (lw_at lw_m7 171 rfl) rfl
theorem q1708 : (Jvm.Cond.classLink "PumpCrossing$Tray" (19 : Nat) "[J") ∈ lw_all := lw_g (lw_at lw_m7 172 rfl) rfl
theorem q1710 : (Jvm.Cond.instanceMethod ({ cls := "PumpCrossing$Tray", name := "isWithin", desc := "(I)Z" } : Jvm.MethodName)) ∈ lw_all := lw_g (lw_at lw_m7 174 rfl) rfl
theorem q1711 : (Jvm.Cond.selects "PumpCrossing$Tray" ({ cls := "PumpCrossing$Tray", name := "isWithin", desc := "(I)Z" } : Jvm.MethodName) ({ cls := "PumpCrossing$Tray", name := "isWithin", desc := "(I)Z" } : Jvm.MethodName)) ∈ lw_all := lw_g (lw_at lw_m7 175 rfl) rfl
theorem q1712 : (Jvm.Cond.code ({ cls := "PumpCrossing$Tray", name := "isWithin", desc := "(I)Z" } : Jvm.MethodName) prog_25_method_6_code (3 : Nat) (Option.some Jvm.ClassFile.FieldType.boolean)) ∈ lw_all := lw_g (lw_at lw_m7 176 rfl) rfl
theorem q1713 : (Jvm.Cond.methodLink "PumpCrossing$Tray" (21 : Nat) ({ cls := "PumpCrossing$Tray", name := "size", desc := "()I" } : Jvm.MethodName)) ∈ lw_all := lw_g (lw_at lw_m7 177 rfl) rfl
theorem q1714 : (Jvm.Cond.methodLink "PumpCrossing$Tray" (25 : Nat) ({ cls := "PumpCrossing$Tray", name := "at", desc := "(I)J" } : Jvm.MethodName)) ∈ lw_all := lw_g (lw_at lw_m7 178 rfl) rfl
theorem q1715 : (Jvm.Cond.instanceMethod ({ cls := "PumpCrossing$Tray", name := "at", desc := "(I)J" } : Jvm.MethodName)) ∈ lw_all := lw_g (lw_at lw_m7 179 rfl) rfl
theorem q1716 : (Jvm.Cond.selects "PumpCrossing$Tray" ({ cls := "PumpCrossing$Tray", name := "at", desc := "(I)J" } : Jvm.MethodName) ({ cls := "PumpCrossing$Tray", name := "at", desc := "(I)J" } : Jvm.MethodName)) ∈ lw_all := lw_g (lw_at lw_m7 180 rfl) rfl
theorem q1717 : (Jvm.Cond.code ({ cls := "PumpCrossing$Tray", name := "at", desc := "(I)J" } : Jvm.MethodName) prog_25_method_3_code (2 : Nat) (Option.some Jvm.ClassFile.FieldType.long)) ∈ lw_all := lw_g (lw_at lw_m7 181 rfl) rfl
theorem q1718 : (Jvm.Cond.methodLinkNest "PumpCrossing$Tray" (29 : Nat) ({ cls := "PumpCrossing", name := "isIn", desc := "(JJJ)Z" } : Jvm.MethodName) "PumpCrossing") ∈ lw_tbl := lw_at lw_m7 182 rfl
theorem q1778 : (Jvm.Cond.instanceMethod ({ cls := "PumpCrossing$Tray", name := "make", desc := "(II)V" } : Jvm.MethodName)) ∈ lw_all := lw_g (lw_at lw_m8 2 rfl) rfl
theorem q1779 : (Jvm.Cond.selects "PumpCrossing$Tray" ({ cls := "PumpCrossing$Tray", name := "make", desc := "(II)V" } : Jvm.MethodName) ({ cls := "PumpCrossing$Tray", name := "make", desc := "(II)V" } : Jvm.MethodName)) ∈ lw_all := lw_g (lw_at lw_m8 3 rfl) rfl
theorem q1780 : (Jvm.Cond.code ({ cls := "PumpCrossing$Tray", name := "make", desc := "(II)V" } : Jvm.MethodName) prog_25_method_2_code (3 : Nat) (Option.none : Option Jvm.ClassFile.FieldType)) ∈ lw_all := lw_g (lw_at lw_m8 4 rfl) rfl
theorem q1791 : (Jvm.Cond.instanceMethod ({ cls := "PumpCrossing$Tray", name := "put", desc := "(IJ)V" } : Jvm.MethodName)) ∈ lw_all := lw_g (lw_at lw_m8 15 rfl) rfl
theorem q1792 : (Jvm.Cond.selects "PumpCrossing$Tray" ({ cls := "PumpCrossing$Tray", name := "put", desc := "(IJ)V" } : Jvm.MethodName) ({ cls := "PumpCrossing$Tray", name := "put", desc := "(IJ)V" } : Jvm.MethodName)) ∈ lw_all := lw_g (lw_at lw_m8 16 rfl) rfl
theorem q1793 : (Jvm.Cond.code ({ cls := "PumpCrossing$Tray", name := "put", desc := "(IJ)V" } : Jvm.MethodName) prog_25_method_4_code (4 : Nat) (Option.none : Option Jvm.ClassFile.FieldType)) ∈ lw_all := lw_g (lw_at lw_m8 17 rfl) rfl
theorem q2411 : (Jvm.Cond.castable "PumpCrossing$Tray" "java/lang/Object") ∈ lw_tbl := lw_at lw_m10 155 rfl
theorem in_X7 : ∀ w ∈ wsX70, w ∈ lw_all := lw_in wsX70 [331] (by decide +kernel) (by decide +kernel)
/-! PumpCrossing$Station -/
set_option maxRecDepth 100000
def RX9 : String := "PumpCrossing$Station"
def TX9 : u_T := fun k => match k with
  | 0 => ("PumpCrossing$Station", "cost", "I", false)
  | 1 => ("PumpCrossing$Station", "late", "I", false)
  | 2 => ("PumpCrossing$Station", "now", "I", false)
  | 3 => ("PumpCrossing$Station", "changed", "I", false)
  | 4 => ("PumpCrossing$Station", "first", "I", false)
  | 5 => ("PumpCrossing$Station", "profit", "J", false)
  | 6 => ("PumpCrossing$Station", "sold", "J", false)
  | _ => ("PumpCrossing$Station", "rules", "Ljava/util/ArrayList;", false)
def tyX9 : Nat → FieldType := fun k => match k with
  | 0 => .int
  | 1 => .int
  | 2 => .int
  | 3 => .int
  | 4 => .int
  | 5 => .long
  | 6 => .long
  | _ => .object "java/util/ArrayList"
abbrev wsX90 : List Cond := u_ws RX9 TX9 8
theorem nmX9 : ∀ a, a < 8 → ∀ b, b < 8 → a ≠ b → (TX9 a).2.1 ≠ (TX9 b).2.1 := by decide +kernel
theorem tyX9_ok : ∀ k, k < 8 → parseFieldDescriptor (TX9 k).2.2.1 = some (tyX9 k) := by decide +kernel
abbrev cX9_init : ByteArray := prog_21_method_1_code
def yX9_init : MethodName := ⟨RX9, "<init>", "(III)V"⟩
def dkwX9_init_1 : List UInt8 := [181, 0, 22, 42, 29, 181, 0, 25, 42, 28, 181, 0, 28, 42, 28, 181, 0, 31, 177]
abbrev dktX9_init_1 : List UInt8 := dkwX9_init_1 ++ []
def dkwX9_init_0 : List UInt8 := [42, 183, 0, 3, 42, 2, 181, 0, 9, 42, 187, 0, 15, 89, 183, 0, 17, 181, 0, 18, 42, 27]
abbrev dktX9_init_0 : List UInt8 := dkwX9_init_0 ++ dktX9_init_1
theorem dksX9_init_0 : cX9_init.data.toList.drop 0 = dktX9_init_0 := by decide +kernel
theorem dksX9_init_1 : cX9_init.data.toList.drop 22 = dktX9_init_1 := dk_seg dksX9_init_0 22 rfl rfl
theorem dX9_init_0 : decode cX9_init 0 = .ok (.aload_n 0, 1) := dk_42 (dk_at dksX9_init_0 0 rfl rfl)
theorem dX9_init_1 : decode cX9_init 1 = .ok (.invokespecial 3, 3) := dk_183 0 3 (dk_at dksX9_init_0 1 rfl rfl)
theorem dX9_init_4 : decode cX9_init 4 = .ok (.aload_n 0, 1) := dk_42 (dk_at dksX9_init_0 4 rfl rfl)
theorem dX9_init_5 : decode cX9_init 5 = .ok (.iconst (-1), 1) := dk_2 (dk_at dksX9_init_0 5 rfl rfl)
theorem dX9_init_6 : decode cX9_init 6 = .ok (.putfield 9, 3) := dk_181 0 9 (dk_at dksX9_init_0 6 rfl rfl)
theorem dX9_init_9 : decode cX9_init 9 = .ok (.aload_n 0, 1) := dk_42 (dk_at dksX9_init_0 9 rfl rfl)
theorem dX9_init_10 : decode cX9_init 10 = .ok (.new 15, 3) := dk_187 0 15 (dk_at dksX9_init_0 10 rfl rfl)
theorem dX9_init_13 : decode cX9_init 13 = .ok (.dup, 1) := dk_89 (dk_at dksX9_init_0 13 rfl rfl)
theorem dX9_init_14 : decode cX9_init 14 = .ok (.invokespecial 17, 3) := dk_183 0 17 (dk_at dksX9_init_0 14 rfl rfl)
theorem dX9_init_17 : decode cX9_init 17 = .ok (.putfield 18, 3) := dk_181 0 18 (dk_at dksX9_init_0 17 rfl rfl)
theorem dX9_init_20 : decode cX9_init 20 = .ok (.aload_n 0, 1) := dk_42 (dk_at dksX9_init_0 20 rfl rfl)
theorem dX9_init_21 : decode cX9_init 21 = .ok (.iload_n 1, 1) := dk_27 (dk_at dksX9_init_0 21 rfl rfl)
theorem dX9_init_22 : decode cX9_init 22 = .ok (.putfield 22, 3) := dk_181 0 22 (dk_at dksX9_init_1 0 rfl rfl)
theorem dX9_init_25 : decode cX9_init 25 = .ok (.aload_n 0, 1) := dk_42 (dk_at dksX9_init_1 3 rfl rfl)
theorem dX9_init_26 : decode cX9_init 26 = .ok (.iload_n 3, 1) := dk_29 (dk_at dksX9_init_1 4 rfl rfl)
theorem dX9_init_27 : decode cX9_init 27 = .ok (.putfield 25, 3) := dk_181 0 25 (dk_at dksX9_init_1 5 rfl rfl)
theorem dX9_init_30 : decode cX9_init 30 = .ok (.aload_n 0, 1) := dk_42 (dk_at dksX9_init_1 8 rfl rfl)
theorem dX9_init_31 : decode cX9_init 31 = .ok (.iload_n 2, 1) := dk_28 (dk_at dksX9_init_1 9 rfl rfl)
theorem dX9_init_32 : decode cX9_init 32 = .ok (.putfield 28, 3) := dk_181 0 28 (dk_at dksX9_init_1 10 rfl rfl)
theorem dX9_init_35 : decode cX9_init 35 = .ok (.aload_n 0, 1) := dk_42 (dk_at dksX9_init_1 13 rfl rfl)
theorem dX9_init_36 : decode cX9_init 36 = .ok (.iload_n 2, 1) := dk_28 (dk_at dksX9_init_1 14 rfl rfl)
theorem dX9_init_37 : decode cX9_init 37 = .ok (.putfield 31, 3) := dk_181 0 31 (dk_at dksX9_init_1 15 rfl rfl)
theorem dX9_init_40 : decode cX9_init 40 = .ok (.return_, 1) := dk_177 (dk_at dksX9_init_1 18 rfl rfl)
abbrev cX9_init_2 : ByteArray := prog_21_method_2_code
def yX9_init_2 : MethodName := ⟨RX9, "<init>", "(LPumpCrossing$Station;)V"⟩
def dkwX9_init_2_2 : List UInt8 := [42, 43, 180, 0, 18, 181, 0, 18, 177]
abbrev dktX9_init_2_2 : List UInt8 := dkwX9_init_2_2 ++ []
def dkwX9_init_2_1 : List UInt8 := [42, 43, 180, 0, 31, 181, 0, 31, 42, 43, 180, 0, 37, 181, 0, 37, 42, 43, 180, 0, 41, 181, 0, 41]
abbrev dktX9_init_2_1 : List UInt8 := dkwX9_init_2_1 ++ dktX9_init_2_2
def dkwX9_init_2_0 : List UInt8 := [42, 43, 180, 0, 22, 43, 180, 0, 28, 43, 180, 0, 25, 183, 0, 34, 42, 43, 180, 0, 9, 181, 0, 9]
abbrev dktX9_init_2_0 : List UInt8 := dkwX9_init_2_0 ++ dktX9_init_2_1
theorem dksX9_init_2_0 : cX9_init_2.data.toList.drop 0 = dktX9_init_2_0 := by decide +kernel
theorem dksX9_init_2_1 : cX9_init_2.data.toList.drop 24 = dktX9_init_2_1 := dk_seg dksX9_init_2_0 24 rfl rfl
theorem dksX9_init_2_2 : cX9_init_2.data.toList.drop 48 = dktX9_init_2_2 := dk_seg dksX9_init_2_1 24 rfl rfl
theorem dX9_init_2_0 : decode cX9_init_2 0 = .ok (.aload_n 0, 1) := dk_42 (dk_at dksX9_init_2_0 0 rfl rfl)
theorem dX9_init_2_1 : decode cX9_init_2 1 = .ok (.aload_n 1, 1) := dk_43 (dk_at dksX9_init_2_0 1 rfl rfl)
theorem dX9_init_2_2 : decode cX9_init_2 2 = .ok (.getfield 22, 3) := dk_180 0 22 (dk_at dksX9_init_2_0 2 rfl rfl)
theorem dX9_init_2_5 : decode cX9_init_2 5 = .ok (.aload_n 1, 1) := dk_43 (dk_at dksX9_init_2_0 5 rfl rfl)
theorem dX9_init_2_6 : decode cX9_init_2 6 = .ok (.getfield 28, 3) := dk_180 0 28 (dk_at dksX9_init_2_0 6 rfl rfl)
theorem dX9_init_2_9 : decode cX9_init_2 9 = .ok (.aload_n 1, 1) := dk_43 (dk_at dksX9_init_2_0 9 rfl rfl)
theorem dX9_init_2_10 : decode cX9_init_2 10 = .ok (.getfield 25, 3) := dk_180 0 25 (dk_at dksX9_init_2_0 10 rfl rfl)
theorem dX9_init_2_13 : decode cX9_init_2 13 = .ok (.invokespecial 34, 3) := dk_183 0 34 (dk_at dksX9_init_2_0 13 rfl rfl)
theorem dX9_init_2_16 : decode cX9_init_2 16 = .ok (.aload_n 0, 1) := dk_42 (dk_at dksX9_init_2_0 16 rfl rfl)
theorem dX9_init_2_17 : decode cX9_init_2 17 = .ok (.aload_n 1, 1) := dk_43 (dk_at dksX9_init_2_0 17 rfl rfl)
theorem dX9_init_2_18 : decode cX9_init_2 18 = .ok (.getfield 9, 3) := dk_180 0 9 (dk_at dksX9_init_2_0 18 rfl rfl)
theorem dX9_init_2_21 : decode cX9_init_2 21 = .ok (.putfield 9, 3) := dk_181 0 9 (dk_at dksX9_init_2_0 21 rfl rfl)
theorem dX9_init_2_24 : decode cX9_init_2 24 = .ok (.aload_n 0, 1) := dk_42 (dk_at dksX9_init_2_1 0 rfl rfl)
theorem dX9_init_2_25 : decode cX9_init_2 25 = .ok (.aload_n 1, 1) := dk_43 (dk_at dksX9_init_2_1 1 rfl rfl)
theorem dX9_init_2_26 : decode cX9_init_2 26 = .ok (.getfield 31, 3) := dk_180 0 31 (dk_at dksX9_init_2_1 2 rfl rfl)
theorem dX9_init_2_29 : decode cX9_init_2 29 = .ok (.putfield 31, 3) := dk_181 0 31 (dk_at dksX9_init_2_1 5 rfl rfl)
theorem dX9_init_2_32 : decode cX9_init_2 32 = .ok (.aload_n 0, 1) := dk_42 (dk_at dksX9_init_2_1 8 rfl rfl)
theorem dX9_init_2_33 : decode cX9_init_2 33 = .ok (.aload_n 1, 1) := dk_43 (dk_at dksX9_init_2_1 9 rfl rfl)
theorem dX9_init_2_34 : decode cX9_init_2 34 = .ok (.getfield 37, 3) := dk_180 0 37 (dk_at dksX9_init_2_1 10 rfl rfl)
theorem dX9_init_2_37 : decode cX9_init_2 37 = .ok (.putfield 37, 3) := dk_181 0 37 (dk_at dksX9_init_2_1 13 rfl rfl)
theorem dX9_init_2_40 : decode cX9_init_2 40 = .ok (.aload_n 0, 1) := dk_42 (dk_at dksX9_init_2_1 16 rfl rfl)
theorem dX9_init_2_41 : decode cX9_init_2 41 = .ok (.aload_n 1, 1) := dk_43 (dk_at dksX9_init_2_1 17 rfl rfl)
theorem dX9_init_2_42 : decode cX9_init_2 42 = .ok (.getfield 41, 3) := dk_180 0 41 (dk_at dksX9_init_2_1 18 rfl rfl)
theorem dX9_init_2_45 : decode cX9_init_2 45 = .ok (.putfield 41, 3) := dk_181 0 41 (dk_at dksX9_init_2_1 21 rfl rfl)
theorem dX9_init_2_48 : decode cX9_init_2 48 = .ok (.aload_n 0, 1) := dk_42 (dk_at dksX9_init_2_2 0 rfl rfl)
theorem dX9_init_2_49 : decode cX9_init_2 49 = .ok (.aload_n 1, 1) := dk_43 (dk_at dksX9_init_2_2 1 rfl rfl)
theorem dX9_init_2_50 : decode cX9_init_2 50 = .ok (.getfield 18, 3) := dk_180 0 18 (dk_at dksX9_init_2_2 2 rfl rfl)
theorem dX9_init_2_53 : decode cX9_init_2 53 = .ok (.putfield 18, 3) := dk_181 0 18 (dk_at dksX9_init_2_2 5 rfl rfl)
theorem dX9_init_2_56 : decode cX9_init_2 56 = .ok (.return_, 1) := dk_177 (dk_at dksX9_init_2_2 8 rfl rfl)
theorem q113 : (Jvm.Cond.initialized "PumpCrossing$Station") ∈ lw_all := lw_g (lw_at lw_m1 17 rfl) rfl
theorem q604 : (Jvm.Cond.instantiable "PumpCrossing$Station" (8 : Nat)) ∈ lw_all := lw_g (lw_at lw_m3 28 rfl) rfl
theorem q606 : (Jvm.Cond.instanceMethod ({ cls := "PumpCrossing$Station", name := "<init>", desc := "(III)V" } : Jvm.MethodName)) ∈ lw_all := lw_g (lw_at lw_m3 30 rfl) rfl
theorem q607 : (Jvm.Cond.code ({ cls := "PumpCrossing$Station", name := "<init>", desc := "(III)V" } : Jvm.MethodName) prog_21_method_1_code (4 : Nat) (Option.none : Option Jvm.ClassFile.FieldType)) ∈ lw_all := lw_g (lw_at lw_m3 31 rfl) rfl
theorem q608 : (Jvm.Cond.methodLink "PumpCrossing$Station" (3 : Nat) ({ cls := "java/lang/Object", name := "<init>", desc := "()V" } : Jvm.MethodName)) ∈ lw_all := lw_g (lw_at lw_m3 32 rfl) rfl
theorem q609 : (Jvm.Cond.classLink "PumpCrossing$Station" (15 : Nat) "java/util/ArrayList") ∈ lw_all := lw_g (lw_at lw_m3 33 rfl) rfl
theorem q610 : (Jvm.Cond.methodLink "PumpCrossing$Station" (17 : Nat) ({ cls := "java/util/ArrayList", name := "<init>", desc := "()V" } : Jvm.MethodName)) ∈ lw_all := lw_g (lw_at lw_m3 34 rfl) rfl
theorem q611 : (Jvm.Cond.fieldLink "PumpCrossing$Station" (22 : Nat) "PumpCrossing$Station" "cost" "I") ∈ lw_all := lw_g (lw_at lw_m3 35 rfl) rfl
theorem q613 : (Jvm.Cond.fieldLink "PumpCrossing$Station" (25 : Nat) "PumpCrossing$Station" "late" "I") ∈ lw_all := lw_g (lw_at lw_m3 37 rfl) rfl
theorem q615 : (Jvm.Cond.fieldLink "PumpCrossing$Station" (28 : Nat) "PumpCrossing$Station" "now" "I") ∈ lw_all := lw_g (lw_at lw_m3 39 rfl) rfl
theorem q617 : (Jvm.Cond.fieldLink "PumpCrossing$Station" (9 : Nat) "PumpCrossing$Station" "changed" "I") ∈ lw_all := lw_g (lw_at lw_m3 41 rfl) rfl
theorem q620 : (Jvm.Cond.fieldLink "PumpCrossing$Station" (31 : Nat) "PumpCrossing$Station" "first" "I") ∈ lw_all := lw_g (lw_at lw_m3 44 rfl) rfl
theorem q622 : (Jvm.Cond.fieldLink "PumpCrossing$Station" (37 : Nat) "PumpCrossing$Station" "profit" "J") ∈ lw_all := lw_g (lw_at lw_m3 46 rfl) rfl
theorem q624 : (Jvm.Cond.fieldLink "PumpCrossing$Station" (41 : Nat) "PumpCrossing$Station" "sold" "J") ∈ lw_all := lw_g (lw_at lw_m3 48 rfl) rfl
theorem q626 : (Jvm.Cond.fieldLink "PumpCrossing$Station" (18 : Nat) "PumpCrossing$Station" "rules" "Ljava/util/ArrayList;") ∈ lw_all := lw_g (lw_at lw_m3 50 rfl) rfl
theorem q628 : (Jvm.Cond.lays "PumpCrossing$Station" "PumpCrossing$Station" "cost" "I") ∈ lw_all := lw_g (lw_at lw_m3 52 rfl) rfl
theorem q629 : (Jvm.Cond.soleField "PumpCrossing$Station" "cost") ∈ lw_all := lw_g (lw_at lw_m3 53 rfl) rfl
theorem q630 : (Jvm.Cond.lays "PumpCrossing$Station" "PumpCrossing$Station" "late" "I") ∈ lw_all := lw_g (lw_at lw_m3 54 rfl) rfl
theorem q631 : (Jvm.Cond.soleField "PumpCrossing$Station" "late") ∈ lw_all := lw_g (lw_at lw_m3 55 rfl) rfl
theorem q632 : (Jvm.Cond.lays "PumpCrossing$Station" "PumpCrossing$Station" "now" "I") ∈ lw_all := lw_g (lw_at lw_m3 56 rfl) rfl
theorem q633 : (Jvm.Cond.soleField "PumpCrossing$Station" "now") ∈ lw_all := lw_g (lw_at lw_m3 57 rfl) rfl
theorem q634 : (Jvm.Cond.lays "PumpCrossing$Station" "PumpCrossing$Station" "changed" "I") ∈ lw_all := lw_g (lw_at lw_m3 58 rfl) rfl
theorem q635 : (Jvm.Cond.soleField "PumpCrossing$Station" "changed") ∈ lw_all := lw_g (lw_at lw_m3 59 rfl) rfl
theorem q636 : (Jvm.Cond.lays "PumpCrossing$Station" "PumpCrossing$Station" "first" "I") ∈ lw_all := lw_g (lw_at lw_m3 60 rfl) rfl
theorem q637 : (Jvm.Cond.soleField "PumpCrossing$Station" "first") ∈ lw_all := lw_g (lw_at lw_m3 61 rfl) rfl
theorem q638 : (Jvm.Cond.lays "PumpCrossing$Station" "PumpCrossing$Station" "profit" "J") ∈ lw_all := lw_g (lw_at lw_m3 62 rfl) rfl
theorem q639 : (Jvm.Cond.soleField "PumpCrossing$Station" "profit") ∈ lw_all := lw_g (lw_at lw_m3 63 rfl) rfl
theorem q640 : (Jvm.Cond.lays "PumpCrossing$Station" "PumpCrossing$Station" "sold" "J") ∈ lw_all := lw_g (lw_at lw_m3 64 rfl) rfl
theorem q641 : (Jvm.Cond.soleField "PumpCrossing$Station" "sold") ∈ lw_all := lw_g (lw_at lw_m3 65 rfl) rfl
theorem q642 : (Jvm.Cond.lays "PumpCrossing$Station" "PumpCrossing$Station" "rules" "Ljava/util/ArrayList;") ∈ lw_all := lw_g (lw_at lw_m3 66 rfl) rfl
theorem q643 : (Jvm.Cond.soleField "PumpCrossing$Station" "rules") ∈ lw_all := lw_g (lw_at lw_m3 67 rfl) rfl
theorem q644 : (Jvm.Cond.superclass "PumpCrossing$Station" "java/lang/Object") ∈ lw_all := lw_g (lw_at lw_m3 68 rfl) rfl
theorem q694 : (Jvm.Cond.selects "PumpCrossing$Station" ({ cls := "java/lang/Object", name := "getClass", desc := "()Ljava/lang/Class;" } : Jvm.MethodName) ({ cls := "java/lang/Object", name := "getClass", desc := "()Ljava/lang/Class;" } : Jvm.MethodName)) ∈ lw_all := lw_g (lw_at lw_m3 118 rfl) rfl
theorem q1807 : (Jvm.Cond.instanceMethod ({ cls := "PumpCrossing$Station", name := "<init>", desc := "(LPumpCrossing$Station;)V" } : Jvm.MethodName)) ∈ lw_all := lw_g (lw_at lw_m8 31 rfl) rfl
theorem q1808 : (Jvm.Cond.code ({ cls := "PumpCrossing$Station", name := "<init>", desc := "(LPumpCrossing$Station;)V" } : Jvm.MethodName) prog_21_method_2_code (2 : Nat) (Option.none : Option Jvm.ClassFile.FieldType)) ∈ lw_all := lw_g (lw_at lw_m8 32 rfl) rfl
theorem q1809 : (Jvm.Cond.methodLink "PumpCrossing$Station" (34 : Nat) ({ cls := "PumpCrossing$Station", name := "<init>", desc := "(III)V" } : Jvm.MethodName)) ∈ lw_all := lw_g (lw_at lw_m8 33 rfl) rfl
theorem q2421 : (Jvm.Cond.castable "PumpCrossing$Station" "java/lang/Object") ∈ lw_tbl := lw_at lw_m10 165 rfl
theorem in_X9 : ∀ w ∈ wsX90, w ∈ lw_all := lw_in wsX90 [628, 630, 632, 634, 636, 638, 640, 642] (by decide +kernel) (by decide +kernel)
/-! PumpCrossing$Driver -/
set_option maxRecDepth 100000
def RX10 : String := "PumpCrossing$Driver"
def TX10 : u_T := fun k => match k with
  | 0 => ("PumpCrossing$Driver", "many", "I", true)
  | 1 => ("PumpCrossing$Driver", "habit", "I", true)
  | 2 => ("PumpCrossing$Driver", "know", "I", true)
  | _ => ("PumpCrossing$Driver", "detour", "I", true)
def tyX10 : Nat → FieldType := fun k => match k with
  | 0 => .int
  | 1 => .int
  | 2 => .int
  | _ => .int
abbrev wsX100 : List Cond := u_ws RX10 TX10 4
theorem nmX10 : ∀ a, a < 4 → ∀ b, b < 4 → a ≠ b → (TX10 a).2.1 ≠ (TX10 b).2.1 := by decide +kernel
theorem tyX10_ok : ∀ k, k < 4 → parseFieldDescriptor (TX10 k).2.2.1 = some (tyX10 k) := by decide +kernel
abbrev cX10_init : ByteArray := prog_7_method_1_code
def yX10_init : MethodName := ⟨RX10, "<init>", "(IIII)V"⟩
def dkwX10_init_1 : List UInt8 := [181, 0, 19, 177]
abbrev dktX10_init_1 : List UInt8 := dkwX10_init_1 ++ []
def dkwX10_init_0 : List UInt8 := [42, 183, 0, 1, 42, 27, 181, 0, 7, 42, 28, 181, 0, 13, 42, 29, 181, 0, 16, 42, 21, 4]
abbrev dktX10_init_0 : List UInt8 := dkwX10_init_0 ++ dktX10_init_1
theorem dksX10_init_0 : cX10_init.data.toList.drop 0 = dktX10_init_0 := by decide +kernel
theorem dksX10_init_1 : cX10_init.data.toList.drop 22 = dktX10_init_1 := dk_seg dksX10_init_0 22 rfl rfl
theorem dX10_init_0 : decode cX10_init 0 = .ok (.aload_n 0, 1) := dk_42 (dk_at dksX10_init_0 0 rfl rfl)
theorem dX10_init_1 : decode cX10_init 1 = .ok (.invokespecial 1, 3) := dk_183 0 1 (dk_at dksX10_init_0 1 rfl rfl)
theorem dX10_init_4 : decode cX10_init 4 = .ok (.aload_n 0, 1) := dk_42 (dk_at dksX10_init_0 4 rfl rfl)
theorem dX10_init_5 : decode cX10_init 5 = .ok (.iload_n 1, 1) := dk_27 (dk_at dksX10_init_0 5 rfl rfl)
theorem dX10_init_6 : decode cX10_init 6 = .ok (.putfield 7, 3) := dk_181 0 7 (dk_at dksX10_init_0 6 rfl rfl)
theorem dX10_init_9 : decode cX10_init 9 = .ok (.aload_n 0, 1) := dk_42 (dk_at dksX10_init_0 9 rfl rfl)
theorem dX10_init_10 : decode cX10_init 10 = .ok (.iload_n 2, 1) := dk_28 (dk_at dksX10_init_0 10 rfl rfl)
theorem dX10_init_11 : decode cX10_init 11 = .ok (.putfield 13, 3) := dk_181 0 13 (dk_at dksX10_init_0 11 rfl rfl)
theorem dX10_init_14 : decode cX10_init 14 = .ok (.aload_n 0, 1) := dk_42 (dk_at dksX10_init_0 14 rfl rfl)
theorem dX10_init_15 : decode cX10_init 15 = .ok (.iload_n 3, 1) := dk_29 (dk_at dksX10_init_0 15 rfl rfl)
theorem dX10_init_16 : decode cX10_init 16 = .ok (.putfield 16, 3) := dk_181 0 16 (dk_at dksX10_init_0 16 rfl rfl)
theorem dX10_init_19 : decode cX10_init 19 = .ok (.aload_n 0, 1) := dk_42 (dk_at dksX10_init_0 19 rfl rfl)
theorem dX10_init_20 : decode cX10_init 20 = .ok (.iload 4, 2) := dk_21 4 (dk_at dksX10_init_0 20 rfl rfl)
theorem dX10_init_22 : decode cX10_init 22 = .ok (.putfield 19, 3) := dk_181 0 19 (dk_at dksX10_init_1 0 rfl rfl)
theorem dX10_init_25 : decode cX10_init 25 = .ok (.return_, 1) := dk_177 (dk_at dksX10_init_1 3 rfl rfl)
theorem q121 : (Jvm.Cond.initialized "PumpCrossing$Driver") ∈ lw_all := lw_g (lw_at lw_m1 25 rfl) rfl
theorem q683 : (Jvm.Cond.selects "PumpCrossing$Driver" ({ cls := "java/lang/Object", name := "getClass", desc := "()Ljava/lang/Class;" } : Jvm.MethodName) ({ cls := "java/lang/Object", name := "getClass", desc := "()Ljava/lang/Class;" } : Jvm.MethodName)) ∈ lw_all := lw_g (lw_at lw_m3 107 rfl) rfl
theorem q754 : (Jvm.Cond.instantiable "PumpCrossing$Driver" (4 : Nat)) ∈ lw_all := lw_g (lw_at lw_m3 178 rfl) rfl
theorem q756 : (Jvm.Cond.instanceMethod ({ cls := "PumpCrossing$Driver", name := "<init>", desc := "(IIII)V" } : Jvm.MethodName)) ∈ lw_all := lw_g (lw_at lw_m3 180 rfl) rfl
theorem q757 : (Jvm.Cond.code ({ cls := "PumpCrossing$Driver", name := "<init>", desc := "(IIII)V" } : Jvm.MethodName) prog_7_method_1_code (5 : Nat) (Option.none : Option Jvm.ClassFile.FieldType)) ∈ lw_all := lw_g (lw_at lw_m3 181 rfl) rfl
theorem q758 : (Jvm.Cond.methodLink "PumpCrossing$Driver" (1 : Nat) ({ cls := "java/lang/Object", name := "<init>", desc := "()V" } : Jvm.MethodName)) ∈ lw_all := lw_g (lw_at lw_m3 182 rfl) rfl
theorem q759 : (Jvm.Cond.fieldLink "PumpCrossing$Driver" (7 : Nat) "PumpCrossing$Driver" "many" "I") ∈ lw_all := lw_g (lw_at lw_m3 183 rfl) rfl
theorem q761 : (Jvm.Cond.fieldLink "PumpCrossing$Driver" (13 : Nat) "PumpCrossing$Driver" "habit" "I") ∈ lw_all := lw_g (lw_at lw_m3 185 rfl) rfl
theorem q763 : (Jvm.Cond.fieldLink "PumpCrossing$Driver" (16 : Nat) "PumpCrossing$Driver" "know" "I") ∈ lw_all := lw_g (lw_at lw_m3 187 rfl) rfl
theorem q765 : (Jvm.Cond.fieldLink "PumpCrossing$Driver" (19 : Nat) "PumpCrossing$Driver" "detour" "I") ∈ lw_all := lw_g (lw_at lw_m3 189 rfl) rfl
theorem q767 : (Jvm.Cond.laysFinal "PumpCrossing$Driver" "PumpCrossing$Driver" "many" "I") ∈ lw_all := lw_g (lw_at lw_m3 191 rfl) rfl
theorem q768 : (Jvm.Cond.soleField "PumpCrossing$Driver" "many") ∈ lw_all := lw_g (lw_at lw_m3 192 rfl) rfl
theorem q769 : (Jvm.Cond.laysFinal "PumpCrossing$Driver" "PumpCrossing$Driver" "habit" "I") ∈ lw_all := lw_g (lw_at lw_m3 193 rfl) rfl
theorem q770 : (Jvm.Cond.soleField "PumpCrossing$Driver" "habit") ∈ lw_all := lw_g (lw_at lw_m3 194 rfl) rfl
theorem q771 : (Jvm.Cond.laysFinal "PumpCrossing$Driver" "PumpCrossing$Driver" "know" "I") ∈ lw_all := lw_g (lw_at lw_m3 195 rfl) rfl
theorem q772 : (Jvm.Cond.soleField "PumpCrossing$Driver" "know") ∈ lw_all := lw_g (lw_at lw_m3 196 rfl) rfl
theorem q773 : (Jvm.Cond.laysFinal "PumpCrossing$Driver" "PumpCrossing$Driver" "detour" "I") ∈ lw_all := lw_g (lw_at lw_m3 197 rfl) rfl
theorem q774 : (Jvm.Cond.soleField "PumpCrossing$Driver" "detour") ∈ lw_all := lw_g (lw_at lw_m3 198 rfl) rfl
theorem q775 : (Jvm.Cond.superclass "PumpCrossing$Driver" "java/lang/Object") ∈ lw_all := lw_g (lw_at lw_m3 199 rfl) rfl
theorem q2423 : (Jvm.Cond.castable "PumpCrossing$Driver" "java/lang/Object") ∈ lw_tbl := lw_at lw_m10 167 rfl
theorem in_X10 : ∀ w ∈ wsX100, w ∈ lw_all := lw_in wsX100 [767, 769, 771, 773] (by decide +kernel) (by decide +kernel)
/-! PumpCrossing$Change -/
set_option maxRecDepth 100000
def RX11 : String := "PumpCrossing$Change"
def TX11 : u_T := fun k => match k with
  | 0 => ("PumpCrossing$Change", "station", "I", true)
  | 1 => ("PumpCrossing$Change", "hour", "I", true)
  | _ => ("PumpCrossing$Change", "by", "I", true)
def tyX11 : Nat → FieldType := fun k => match k with
  | 0 => .int
  | 1 => .int
  | _ => .int
abbrev wsX110 : List Cond := u_ws RX11 TX11 3
theorem nmX11 : ∀ a, a < 3 → ∀ b, b < 3 → a ≠ b → (TX11 a).2.1 ≠ (TX11 b).2.1 := by decide +kernel
theorem tyX11_ok : ∀ k, k < 3 → parseFieldDescriptor (TX11 k).2.2.1 = some (tyX11 k) := by decide +kernel
abbrev cX11_init : ByteArray := prog_4_method_1_code
def yX11_init : MethodName := ⟨RX11, "<init>", "(III)V"⟩
def dkwX11_init_0 : List UInt8 := [42, 183, 0, 1, 42, 27, 181, 0, 7, 42, 28, 181, 0, 13, 42, 29, 181, 0, 16, 177]
abbrev dktX11_init_0 : List UInt8 := dkwX11_init_0 ++ []
theorem dksX11_init_0 : cX11_init.data.toList.drop 0 = dktX11_init_0 := by decide +kernel
theorem dX11_init_0 : decode cX11_init 0 = .ok (.aload_n 0, 1) := dk_42 (dk_at dksX11_init_0 0 rfl rfl)
theorem dX11_init_1 : decode cX11_init 1 = .ok (.invokespecial 1, 3) := dk_183 0 1 (dk_at dksX11_init_0 1 rfl rfl)
theorem dX11_init_4 : decode cX11_init 4 = .ok (.aload_n 0, 1) := dk_42 (dk_at dksX11_init_0 4 rfl rfl)
theorem dX11_init_5 : decode cX11_init 5 = .ok (.iload_n 1, 1) := dk_27 (dk_at dksX11_init_0 5 rfl rfl)
theorem dX11_init_6 : decode cX11_init 6 = .ok (.putfield 7, 3) := dk_181 0 7 (dk_at dksX11_init_0 6 rfl rfl)
theorem dX11_init_9 : decode cX11_init 9 = .ok (.aload_n 0, 1) := dk_42 (dk_at dksX11_init_0 9 rfl rfl)
theorem dX11_init_10 : decode cX11_init 10 = .ok (.iload_n 2, 1) := dk_28 (dk_at dksX11_init_0 10 rfl rfl)
theorem dX11_init_11 : decode cX11_init 11 = .ok (.putfield 13, 3) := dk_181 0 13 (dk_at dksX11_init_0 11 rfl rfl)
theorem dX11_init_14 : decode cX11_init 14 = .ok (.aload_n 0, 1) := dk_42 (dk_at dksX11_init_0 14 rfl rfl)
theorem dX11_init_15 : decode cX11_init 15 = .ok (.iload_n 3, 1) := dk_29 (dk_at dksX11_init_0 15 rfl rfl)
theorem dX11_init_16 : decode cX11_init 16 = .ok (.putfield 16, 3) := dk_181 0 16 (dk_at dksX11_init_0 16 rfl rfl)
theorem dX11_init_19 : decode cX11_init 19 = .ok (.return_, 1) := dk_177 (dk_at dksX11_init_0 19 rfl rfl)
theorem q122 : (Jvm.Cond.initialized "PumpCrossing$Change") ∈ lw_all := lw_g (lw_at lw_m1 26 rfl) rfl
theorem q680 : (Jvm.Cond.selects "PumpCrossing$Change" ({ cls := "java/lang/Object", name := "getClass", desc := "()Ljava/lang/Class;" } : Jvm.MethodName) ({ cls := "java/lang/Object", name := "getClass", desc := "()Ljava/lang/Class;" } : Jvm.MethodName)) ∈ lw_all := lw_g (lw_at lw_m3 104 rfl) rfl
theorem q793 : (Jvm.Cond.instantiable "PumpCrossing$Change" (3 : Nat)) ∈ lw_all := lw_g (lw_at lw_m3 217 rfl) rfl
theorem q795 : (Jvm.Cond.instanceMethod ({ cls := "PumpCrossing$Change", name := "<init>", desc := "(III)V" } : Jvm.MethodName)) ∈ lw_all := lw_g (lw_at lw_m3 219 rfl) rfl
theorem q796 : (Jvm.Cond.code ({ cls := "PumpCrossing$Change", name := "<init>", desc := "(III)V" } : Jvm.MethodName) prog_4_method_1_code (4 : Nat) (Option.none : Option Jvm.ClassFile.FieldType)) ∈ lw_all := lw_g (lw_at lw_m3 220 rfl) rfl
theorem q797 : (Jvm.Cond.methodLink "PumpCrossing$Change" (1 : Nat) ({ cls := "java/lang/Object", name := "<init>", desc := "()V" } : Jvm.MethodName)) ∈ lw_all := lw_g (lw_at lw_m3 221 rfl) rfl
theorem q798 : (Jvm.Cond.fieldLink "PumpCrossing$Change" (7 : Nat) "PumpCrossing$Change" "station" "I") ∈ lw_all := lw_g (lw_at lw_m3 222 rfl) rfl
theorem q800 : (Jvm.Cond.fieldLink "PumpCrossing$Change" (13 : Nat) "PumpCrossing$Change" "hour" "I") ∈ lw_all := lw_g (lw_at lw_m3 224 rfl) rfl
theorem q802 : (Jvm.Cond.fieldLink "PumpCrossing$Change" (16 : Nat) "PumpCrossing$Change" "by" "I") ∈ lw_all := lw_g (lw_at lw_m3 226 rfl) rfl
theorem q804 : (Jvm.Cond.laysFinal "PumpCrossing$Change" "PumpCrossing$Change" "station" "I") ∈ lw_all := lw_g (lw_at lw_m3 228 rfl) rfl
theorem q805 : (Jvm.Cond.soleField "PumpCrossing$Change" "station") ∈ lw_all := lw_g (lw_at lw_m3 229 rfl) rfl
theorem q806 : (Jvm.Cond.laysFinal "PumpCrossing$Change" "PumpCrossing$Change" "hour" "I") ∈ lw_all := lw_g (lw_at lw_m3 230 rfl) rfl
theorem q807 : (Jvm.Cond.soleField "PumpCrossing$Change" "hour") ∈ lw_all := lw_g (lw_at lw_m3 231 rfl) rfl
theorem q808 : (Jvm.Cond.laysFinal "PumpCrossing$Change" "PumpCrossing$Change" "by" "I") ∈ lw_all := lw_g (lw_at lw_m3 232 rfl) rfl
theorem q809 : (Jvm.Cond.soleField "PumpCrossing$Change" "by") ∈ lw_all := lw_g (lw_at lw_m3 233 rfl) rfl
theorem q810 : (Jvm.Cond.superclass "PumpCrossing$Change" "java/lang/Object") ∈ lw_all := lw_g (lw_at lw_m3 234 rfl) rfl
theorem q2424 : (Jvm.Cond.castable "PumpCrossing$Change" "java/lang/Object") ∈ lw_tbl := lw_at lw_m10 168 rfl
theorem in_X11 : ∀ w ∈ wsX110, w ∈ lw_all := lw_in wsX110 [804, 806, 808] (by decide +kernel) (by decide +kernel)
/-! PumpCrossing$Reader -/
set_option maxRecDepth 100000
def RX12 : String := "PumpCrossing$Reader"
abbrev cX12_init : ByteArray := prog_17_method_1_code
def yX12_init : MethodName := ⟨RX12, "<init>", "([BI)V"⟩
def dkwX12_init_0 : List UInt8 := [42, 183, 0, 3, 42, 43, 181, 0, 9, 42, 28, 181, 0, 15, 42, 182, 0, 19, 177]
abbrev dktX12_init_0 : List UInt8 := dkwX12_init_0 ++ []
theorem dksX12_init_0 : cX12_init.data.toList.drop 0 = dktX12_init_0 := by decide +kernel
theorem dX12_init_0 : decode cX12_init 0 = .ok (.aload_n 0, 1) := dk_42 (dk_at dksX12_init_0 0 rfl rfl)
theorem dX12_init_1 : decode cX12_init 1 = .ok (.invokespecial 3, 3) := dk_183 0 3 (dk_at dksX12_init_0 1 rfl rfl)
theorem dX12_init_4 : decode cX12_init 4 = .ok (.aload_n 0, 1) := dk_42 (dk_at dksX12_init_0 4 rfl rfl)
theorem dX12_init_5 : decode cX12_init 5 = .ok (.aload_n 1, 1) := dk_43 (dk_at dksX12_init_0 5 rfl rfl)
theorem dX12_init_6 : decode cX12_init 6 = .ok (.putfield 9, 3) := dk_181 0 9 (dk_at dksX12_init_0 6 rfl rfl)
theorem dX12_init_9 : decode cX12_init 9 = .ok (.aload_n 0, 1) := dk_42 (dk_at dksX12_init_0 9 rfl rfl)
theorem dX12_init_10 : decode cX12_init 10 = .ok (.iload_n 2, 1) := dk_28 (dk_at dksX12_init_0 10 rfl rfl)
theorem dX12_init_11 : decode cX12_init 11 = .ok (.putfield 15, 3) := dk_181 0 15 (dk_at dksX12_init_0 11 rfl rfl)
theorem dX12_init_14 : decode cX12_init 14 = .ok (.aload_n 0, 1) := dk_42 (dk_at dksX12_init_0 14 rfl rfl)
theorem dX12_init_15 : decode cX12_init 15 = .ok (.invokevirtual 19, 3) := dk_182 0 19 (dk_at dksX12_init_0 15 rfl rfl)
theorem dX12_init_18 : decode cX12_init 18 = .ok (.return_, 1) := dk_177 (dk_at dksX12_init_0 18 rfl rfl)
abbrev cX12_next : ByteArray := prog_17_method_4_code
def yX12_next : MethodName := ⟨RX12, "next", "()V"⟩
def dkwX12_next_11 : List UInt8 := [181, 0, 28, 177]
abbrev dktX12_next_11 : List UInt8 := dkwX12_next_11 ++ []
def dkwX12_next_10 : List UInt8 := [42, 18, 41, 42, 180, 0, 9, 42, 180, 0, 25, 51, 146, 182, 0, 43, 155, 0, 7, 6, 167, 0, 4, 7]
abbrev dktX12_next_10 : List UInt8 := dkwX12_next_10 ++ dktX12_next_11
def dkwX12_next_9 : List UInt8 := [164, 0, 7, 7, 167, 0, 4, 5, 181, 0, 28, 167, 0, 40, 42, 42, 180, 0, 25, 4, 96, 181, 0, 22]
abbrev dktX12_next_9 : List UInt8 := dkwX12_next_9 ++ dktX12_next_10
def dkwX12_next_8 : List UInt8 := [42, 89, 180, 0, 22, 4, 96, 181, 0, 22, 167, 255, 198, 42, 42, 180, 0, 22, 42, 180, 0, 25, 100, 5]
abbrev dktX12_next_8 : List UInt8 := dkwX12_next_8 ++ dktX12_next_9
def dkwX12_next_7 : List UInt8 := [42, 16, 10, 42, 180, 0, 38, 104, 42, 180, 0, 9, 42, 180, 0, 22, 51, 96, 16, 48, 100, 181, 0, 38]
abbrev dktX12_next_7 : List UInt8 := dkwX12_next_7 ++ dktX12_next_8
def dkwX12_next_6 : List UInt8 := [42, 42, 180, 0, 22, 182, 0, 35, 153, 0, 53, 42, 180, 0, 22, 42, 180, 0, 25, 100, 5, 162, 0, 27]
abbrev dktX12_next_6 : List UInt8 := dkwX12_next_6 ++ dktX12_next_7
def dkwX12_next_5 : List UInt8 := [4, 96, 181, 0, 22, 167, 255, 235, 42, 42, 180, 0, 25, 182, 0, 35, 153, 0, 94, 42, 3, 181, 0, 38]
abbrev dktX12_next_5 : List UInt8 := dkwX12_next_5 ++ dktX12_next_6
def dkwX12_next_4 : List UInt8 := [153, 0, 32, 42, 4, 181, 0, 28, 42, 42, 180, 0, 22, 182, 0, 31, 153, 0, 155, 42, 89, 180, 0, 22]
abbrev dktX12_next_4 : List UInt8 := dkwX12_next_4 ++ dktX12_next_5
def dkwX12_next_3 : List UInt8 := [42, 180, 0, 15, 160, 0, 11, 42, 3, 181, 0, 28, 167, 0, 182, 42, 42, 180, 0, 25, 182, 0, 31]
abbrev dktX12_next_3 : List UInt8 := dkwX12_next_3 ++ dktX12_next_4
def dkwX12_next_2 : List UInt8 := [89, 180, 0, 25, 4, 96, 181, 0, 25, 167, 255, 207, 42, 42, 180, 0, 25, 181, 0, 22, 42, 180, 0, 25]
abbrev dktX12_next_2 : List UInt8 := dkwX12_next_2 ++ dktX12_next_3
def dkwX12_next_1 : List UInt8 := [180, 0, 25, 51, 16, 10, 159, 0, 17, 42, 180, 0, 9, 42, 180, 0, 25, 51, 16, 32, 160, 0, 16, 42]
abbrev dktX12_next_1 : List UInt8 := dkwX12_next_1 ++ dktX12_next_2
def dkwX12_next_0 : List UInt8 := [42, 42, 180, 0, 22, 181, 0, 25, 42, 180, 0, 25, 42, 180, 0, 15, 162, 0, 44, 42, 180, 0, 9, 42]
abbrev dktX12_next_0 : List UInt8 := dkwX12_next_0 ++ dktX12_next_1
theorem dksX12_next_0 : cX12_next.data.toList.drop 0 = dktX12_next_0 := by decide +kernel
theorem dksX12_next_1 : cX12_next.data.toList.drop 24 = dktX12_next_1 := dk_seg dksX12_next_0 24 rfl rfl
theorem dksX12_next_2 : cX12_next.data.toList.drop 48 = dktX12_next_2 := dk_seg dksX12_next_1 24 rfl rfl
theorem dksX12_next_3 : cX12_next.data.toList.drop 72 = dktX12_next_3 := dk_seg dksX12_next_2 24 rfl rfl
theorem dksX12_next_4 : cX12_next.data.toList.drop 95 = dktX12_next_4 := dk_seg dksX12_next_3 23 rfl rfl
theorem dksX12_next_5 : cX12_next.data.toList.drop 119 = dktX12_next_5 := dk_seg dksX12_next_4 24 rfl rfl
theorem dksX12_next_6 : cX12_next.data.toList.drop 143 = dktX12_next_6 := dk_seg dksX12_next_5 24 rfl rfl
theorem dksX12_next_7 : cX12_next.data.toList.drop 167 = dktX12_next_7 := dk_seg dksX12_next_6 24 rfl rfl
theorem dksX12_next_8 : cX12_next.data.toList.drop 191 = dktX12_next_8 := dk_seg dksX12_next_7 24 rfl rfl
theorem dksX12_next_9 : cX12_next.data.toList.drop 215 = dktX12_next_9 := dk_seg dksX12_next_8 24 rfl rfl
theorem dksX12_next_10 : cX12_next.data.toList.drop 239 = dktX12_next_10 := dk_seg dksX12_next_9 24 rfl rfl
theorem dksX12_next_11 : cX12_next.data.toList.drop 263 = dktX12_next_11 := dk_seg dksX12_next_10 24 rfl rfl
theorem dX12_next_0 : decode cX12_next 0 = .ok (.aload_n 0, 1) := dk_42 (dk_at dksX12_next_0 0 rfl rfl)
theorem dX12_next_1 : decode cX12_next 1 = .ok (.aload_n 0, 1) := dk_42 (dk_at dksX12_next_0 1 rfl rfl)
theorem dX12_next_2 : decode cX12_next 2 = .ok (.getfield 22, 3) := dk_180 0 22 (dk_at dksX12_next_0 2 rfl rfl)
theorem dX12_next_5 : decode cX12_next 5 = .ok (.putfield 25, 3) := dk_181 0 25 (dk_at dksX12_next_0 5 rfl rfl)
theorem dX12_next_8 : decode cX12_next 8 = .ok (.aload_n 0, 1) := dk_42 (dk_at dksX12_next_0 8 rfl rfl)
theorem dX12_next_9 : decode cX12_next 9 = .ok (.getfield 25, 3) := dk_180 0 25 (dk_at dksX12_next_0 9 rfl rfl)
theorem dX12_next_12 : decode cX12_next 12 = .ok (.aload_n 0, 1) := dk_42 (dk_at dksX12_next_0 12 rfl rfl)
theorem dX12_next_13 : decode cX12_next 13 = .ok (.getfield 15, 3) := dk_180 0 15 (dk_at dksX12_next_0 13 rfl rfl)
theorem dX12_next_16 : decode cX12_next 16 = .ok (.if_icmp .ge 44, 3) := dk_162 0 44 (dk_at dksX12_next_0 16 rfl rfl)
theorem dX12_next_19 : decode cX12_next 19 = .ok (.aload_n 0, 1) := dk_42 (dk_at dksX12_next_0 19 rfl rfl)
theorem dX12_next_20 : decode cX12_next 20 = .ok (.getfield 9, 3) := dk_180 0 9 (dk_at dksX12_next_0 20 rfl rfl)
theorem dX12_next_23 : decode cX12_next 23 = .ok (.aload_n 0, 1) := dk_42 (dk_at dksX12_next_0 23 rfl rfl)
theorem dX12_next_24 : decode cX12_next 24 = .ok (.getfield 25, 3) := dk_180 0 25 (dk_at dksX12_next_1 0 rfl rfl)
theorem dX12_next_27 : decode cX12_next 27 = .ok (.baload, 1) := dk_51 (dk_at dksX12_next_1 3 rfl rfl)
theorem dX12_next_28 : decode cX12_next 28 = .ok (.bipush 10, 2) := dk_16 10 (dk_at dksX12_next_1 4 rfl rfl)
theorem dX12_next_30 : decode cX12_next 30 = .ok (.if_icmp .eq 17, 3) := dk_159 0 17 (dk_at dksX12_next_1 6 rfl rfl)
theorem dX12_next_33 : decode cX12_next 33 = .ok (.aload_n 0, 1) := dk_42 (dk_at dksX12_next_1 9 rfl rfl)
theorem dX12_next_34 : decode cX12_next 34 = .ok (.getfield 9, 3) := dk_180 0 9 (dk_at dksX12_next_1 10 rfl rfl)
theorem dX12_next_37 : decode cX12_next 37 = .ok (.aload_n 0, 1) := dk_42 (dk_at dksX12_next_1 13 rfl rfl)
theorem dX12_next_38 : decode cX12_next 38 = .ok (.getfield 25, 3) := dk_180 0 25 (dk_at dksX12_next_1 14 rfl rfl)
theorem dX12_next_41 : decode cX12_next 41 = .ok (.baload, 1) := dk_51 (dk_at dksX12_next_1 17 rfl rfl)
theorem dX12_next_42 : decode cX12_next 42 = .ok (.bipush 32, 2) := dk_16 32 (dk_at dksX12_next_1 18 rfl rfl)
theorem dX12_next_44 : decode cX12_next 44 = .ok (.if_icmp .ne 16, 3) := dk_160 0 16 (dk_at dksX12_next_1 20 rfl rfl)
theorem dX12_next_47 : decode cX12_next 47 = .ok (.aload_n 0, 1) := dk_42 (dk_at dksX12_next_1 23 rfl rfl)
theorem dX12_next_48 : decode cX12_next 48 = .ok (.dup, 1) := dk_89 (dk_at dksX12_next_2 0 rfl rfl)
theorem dX12_next_49 : decode cX12_next 49 = .ok (.getfield 25, 3) := dk_180 0 25 (dk_at dksX12_next_2 1 rfl rfl)
theorem dX12_next_52 : decode cX12_next 52 = .ok (.iconst 1, 1) := dk_4 (dk_at dksX12_next_2 4 rfl rfl)
theorem dX12_next_53 : decode cX12_next 53 = .ok (.iadd, 1) := dk_96 (dk_at dksX12_next_2 5 rfl rfl)
theorem dX12_next_54 : decode cX12_next 54 = .ok (.putfield 25, 3) := dk_181 0 25 (dk_at dksX12_next_2 6 rfl rfl)
theorem dX12_next_57 : decode cX12_next 57 = .ok (.goto (-49), 3) := dk_167 255 207 (dk_at dksX12_next_2 9 rfl rfl)
theorem dX12_next_60 : decode cX12_next 60 = .ok (.aload_n 0, 1) := dk_42 (dk_at dksX12_next_2 12 rfl rfl)
theorem dX12_next_61 : decode cX12_next 61 = .ok (.aload_n 0, 1) := dk_42 (dk_at dksX12_next_2 13 rfl rfl)
theorem dX12_next_62 : decode cX12_next 62 = .ok (.getfield 25, 3) := dk_180 0 25 (dk_at dksX12_next_2 14 rfl rfl)
theorem dX12_next_65 : decode cX12_next 65 = .ok (.putfield 22, 3) := dk_181 0 22 (dk_at dksX12_next_2 17 rfl rfl)
theorem dX12_next_68 : decode cX12_next 68 = .ok (.aload_n 0, 1) := dk_42 (dk_at dksX12_next_2 20 rfl rfl)
theorem dX12_next_69 : decode cX12_next 69 = .ok (.getfield 25, 3) := dk_180 0 25 (dk_at dksX12_next_2 21 rfl rfl)
theorem dX12_next_72 : decode cX12_next 72 = .ok (.aload_n 0, 1) := dk_42 (dk_at dksX12_next_3 0 rfl rfl)
theorem dX12_next_73 : decode cX12_next 73 = .ok (.getfield 15, 3) := dk_180 0 15 (dk_at dksX12_next_3 1 rfl rfl)
theorem dX12_next_76 : decode cX12_next 76 = .ok (.if_icmp .ne 11, 3) := dk_160 0 11 (dk_at dksX12_next_3 4 rfl rfl)
theorem dX12_next_79 : decode cX12_next 79 = .ok (.aload_n 0, 1) := dk_42 (dk_at dksX12_next_3 7 rfl rfl)
theorem dX12_next_80 : decode cX12_next 80 = .ok (.iconst 0, 1) := dk_3 (dk_at dksX12_next_3 8 rfl rfl)
theorem dX12_next_81 : decode cX12_next 81 = .ok (.putfield 28, 3) := dk_181 0 28 (dk_at dksX12_next_3 9 rfl rfl)
theorem dX12_next_84 : decode cX12_next 84 = .ok (.goto 182, 3) := dk_167 0 182 (dk_at dksX12_next_3 12 rfl rfl)
theorem dX12_next_87 : decode cX12_next 87 = .ok (.aload_n 0, 1) := dk_42 (dk_at dksX12_next_3 15 rfl rfl)
theorem dX12_next_88 : decode cX12_next 88 = .ok (.aload_n 0, 1) := dk_42 (dk_at dksX12_next_3 16 rfl rfl)
theorem dX12_next_89 : decode cX12_next 89 = .ok (.getfield 25, 3) := dk_180 0 25 (dk_at dksX12_next_3 17 rfl rfl)
theorem dX12_next_92 : decode cX12_next 92 = .ok (.invokevirtual 31, 3) := dk_182 0 31 (dk_at dksX12_next_3 20 rfl rfl)
theorem dX12_next_95 : decode cX12_next 95 = .ok (.ifCond .eq 32, 3) := dk_153 0 32 (dk_at dksX12_next_4 0 rfl rfl)
theorem dX12_next_98 : decode cX12_next 98 = .ok (.aload_n 0, 1) := dk_42 (dk_at dksX12_next_4 3 rfl rfl)
theorem dX12_next_99 : decode cX12_next 99 = .ok (.iconst 1, 1) := dk_4 (dk_at dksX12_next_4 4 rfl rfl)
theorem dX12_next_100 : decode cX12_next 100 = .ok (.putfield 28, 3) := dk_181 0 28 (dk_at dksX12_next_4 5 rfl rfl)
theorem dX12_next_103 : decode cX12_next 103 = .ok (.aload_n 0, 1) := dk_42 (dk_at dksX12_next_4 8 rfl rfl)
theorem dX12_next_104 : decode cX12_next 104 = .ok (.aload_n 0, 1) := dk_42 (dk_at dksX12_next_4 9 rfl rfl)
theorem dX12_next_105 : decode cX12_next 105 = .ok (.getfield 22, 3) := dk_180 0 22 (dk_at dksX12_next_4 10 rfl rfl)
theorem dX12_next_108 : decode cX12_next 108 = .ok (.invokevirtual 31, 3) := dk_182 0 31 (dk_at dksX12_next_4 13 rfl rfl)
theorem dX12_next_111 : decode cX12_next 111 = .ok (.ifCond .eq 155, 3) := dk_153 0 155 (dk_at dksX12_next_4 16 rfl rfl)
theorem dX12_next_114 : decode cX12_next 114 = .ok (.aload_n 0, 1) := dk_42 (dk_at dksX12_next_4 19 rfl rfl)
theorem dX12_next_115 : decode cX12_next 115 = .ok (.dup, 1) := dk_89 (dk_at dksX12_next_4 20 rfl rfl)
theorem dX12_next_116 : decode cX12_next 116 = .ok (.getfield 22, 3) := dk_180 0 22 (dk_at dksX12_next_4 21 rfl rfl)
theorem dX12_next_119 : decode cX12_next 119 = .ok (.iconst 1, 1) := dk_4 (dk_at dksX12_next_5 0 rfl rfl)
theorem dX12_next_120 : decode cX12_next 120 = .ok (.iadd, 1) := dk_96 (dk_at dksX12_next_5 1 rfl rfl)
theorem dX12_next_121 : decode cX12_next 121 = .ok (.putfield 22, 3) := dk_181 0 22 (dk_at dksX12_next_5 2 rfl rfl)
theorem dX12_next_124 : decode cX12_next 124 = .ok (.goto (-21), 3) := dk_167 255 235 (dk_at dksX12_next_5 5 rfl rfl)
theorem dX12_next_127 : decode cX12_next 127 = .ok (.aload_n 0, 1) := dk_42 (dk_at dksX12_next_5 8 rfl rfl)
theorem dX12_next_128 : decode cX12_next 128 = .ok (.aload_n 0, 1) := dk_42 (dk_at dksX12_next_5 9 rfl rfl)
theorem dX12_next_129 : decode cX12_next 129 = .ok (.getfield 25, 3) := dk_180 0 25 (dk_at dksX12_next_5 10 rfl rfl)
theorem dX12_next_132 : decode cX12_next 132 = .ok (.invokevirtual 35, 3) := dk_182 0 35 (dk_at dksX12_next_5 13 rfl rfl)
theorem dX12_next_135 : decode cX12_next 135 = .ok (.ifCond .eq 94, 3) := dk_153 0 94 (dk_at dksX12_next_5 16 rfl rfl)
theorem dX12_next_138 : decode cX12_next 138 = .ok (.aload_n 0, 1) := dk_42 (dk_at dksX12_next_5 19 rfl rfl)
theorem dX12_next_139 : decode cX12_next 139 = .ok (.iconst 0, 1) := dk_3 (dk_at dksX12_next_5 20 rfl rfl)
theorem dX12_next_140 : decode cX12_next 140 = .ok (.putfield 38, 3) := dk_181 0 38 (dk_at dksX12_next_5 21 rfl rfl)
theorem dX12_next_143 : decode cX12_next 143 = .ok (.aload_n 0, 1) := dk_42 (dk_at dksX12_next_6 0 rfl rfl)
theorem dX12_next_144 : decode cX12_next 144 = .ok (.aload_n 0, 1) := dk_42 (dk_at dksX12_next_6 1 rfl rfl)
theorem dX12_next_145 : decode cX12_next 145 = .ok (.getfield 22, 3) := dk_180 0 22 (dk_at dksX12_next_6 2 rfl rfl)
theorem dX12_next_148 : decode cX12_next 148 = .ok (.invokevirtual 35, 3) := dk_182 0 35 (dk_at dksX12_next_6 5 rfl rfl)
theorem dX12_next_151 : decode cX12_next 151 = .ok (.ifCond .eq 53, 3) := dk_153 0 53 (dk_at dksX12_next_6 8 rfl rfl)
theorem dX12_next_154 : decode cX12_next 154 = .ok (.aload_n 0, 1) := dk_42 (dk_at dksX12_next_6 11 rfl rfl)
theorem dX12_next_155 : decode cX12_next 155 = .ok (.getfield 22, 3) := dk_180 0 22 (dk_at dksX12_next_6 12 rfl rfl)
theorem dX12_next_158 : decode cX12_next 158 = .ok (.aload_n 0, 1) := dk_42 (dk_at dksX12_next_6 15 rfl rfl)
theorem dX12_next_159 : decode cX12_next 159 = .ok (.getfield 25, 3) := dk_180 0 25 (dk_at dksX12_next_6 16 rfl rfl)
theorem dX12_next_162 : decode cX12_next 162 = .ok (.isub, 1) := dk_100 (dk_at dksX12_next_6 19 rfl rfl)
theorem dX12_next_163 : decode cX12_next 163 = .ok (.iconst 2, 1) := dk_5 (dk_at dksX12_next_6 20 rfl rfl)
theorem dX12_next_164 : decode cX12_next 164 = .ok (.if_icmp .ge 27, 3) := dk_162 0 27 (dk_at dksX12_next_6 21 rfl rfl)
theorem dX12_next_167 : decode cX12_next 167 = .ok (.aload_n 0, 1) := dk_42 (dk_at dksX12_next_7 0 rfl rfl)
theorem dX12_next_168 : decode cX12_next 168 = .ok (.bipush 10, 2) := dk_16 10 (dk_at dksX12_next_7 1 rfl rfl)
theorem dX12_next_170 : decode cX12_next 170 = .ok (.aload_n 0, 1) := dk_42 (dk_at dksX12_next_7 3 rfl rfl)
theorem dX12_next_171 : decode cX12_next 171 = .ok (.getfield 38, 3) := dk_180 0 38 (dk_at dksX12_next_7 4 rfl rfl)
theorem dX12_next_174 : decode cX12_next 174 = .ok (.imul, 1) := dk_104 (dk_at dksX12_next_7 7 rfl rfl)
theorem dX12_next_175 : decode cX12_next 175 = .ok (.aload_n 0, 1) := dk_42 (dk_at dksX12_next_7 8 rfl rfl)
theorem dX12_next_176 : decode cX12_next 176 = .ok (.getfield 9, 3) := dk_180 0 9 (dk_at dksX12_next_7 9 rfl rfl)
theorem dX12_next_179 : decode cX12_next 179 = .ok (.aload_n 0, 1) := dk_42 (dk_at dksX12_next_7 12 rfl rfl)
theorem dX12_next_180 : decode cX12_next 180 = .ok (.getfield 22, 3) := dk_180 0 22 (dk_at dksX12_next_7 13 rfl rfl)
theorem dX12_next_183 : decode cX12_next 183 = .ok (.baload, 1) := dk_51 (dk_at dksX12_next_7 16 rfl rfl)
theorem dX12_next_184 : decode cX12_next 184 = .ok (.iadd, 1) := dk_96 (dk_at dksX12_next_7 17 rfl rfl)
theorem dX12_next_185 : decode cX12_next 185 = .ok (.bipush 48, 2) := dk_16 48 (dk_at dksX12_next_7 18 rfl rfl)
theorem dX12_next_187 : decode cX12_next 187 = .ok (.isub, 1) := dk_100 (dk_at dksX12_next_7 20 rfl rfl)
theorem dX12_next_188 : decode cX12_next 188 = .ok (.putfield 38, 3) := dk_181 0 38 (dk_at dksX12_next_7 21 rfl rfl)
theorem dX12_next_191 : decode cX12_next 191 = .ok (.aload_n 0, 1) := dk_42 (dk_at dksX12_next_8 0 rfl rfl)
theorem dX12_next_192 : decode cX12_next 192 = .ok (.dup, 1) := dk_89 (dk_at dksX12_next_8 1 rfl rfl)
theorem dX12_next_193 : decode cX12_next 193 = .ok (.getfield 22, 3) := dk_180 0 22 (dk_at dksX12_next_8 2 rfl rfl)
theorem dX12_next_196 : decode cX12_next 196 = .ok (.iconst 1, 1) := dk_4 (dk_at dksX12_next_8 5 rfl rfl)
theorem dX12_next_197 : decode cX12_next 197 = .ok (.iadd, 1) := dk_96 (dk_at dksX12_next_8 6 rfl rfl)
theorem dX12_next_198 : decode cX12_next 198 = .ok (.putfield 22, 3) := dk_181 0 22 (dk_at dksX12_next_8 7 rfl rfl)
theorem dX12_next_201 : decode cX12_next 201 = .ok (.goto (-58), 3) := dk_167 255 198 (dk_at dksX12_next_8 10 rfl rfl)
theorem dX12_next_204 : decode cX12_next 204 = .ok (.aload_n 0, 1) := dk_42 (dk_at dksX12_next_8 13 rfl rfl)
theorem dX12_next_205 : decode cX12_next 205 = .ok (.aload_n 0, 1) := dk_42 (dk_at dksX12_next_8 14 rfl rfl)
theorem dX12_next_206 : decode cX12_next 206 = .ok (.getfield 22, 3) := dk_180 0 22 (dk_at dksX12_next_8 15 rfl rfl)
theorem dX12_next_209 : decode cX12_next 209 = .ok (.aload_n 0, 1) := dk_42 (dk_at dksX12_next_8 18 rfl rfl)
theorem dX12_next_210 : decode cX12_next 210 = .ok (.getfield 25, 3) := dk_180 0 25 (dk_at dksX12_next_8 19 rfl rfl)
theorem dX12_next_213 : decode cX12_next 213 = .ok (.isub, 1) := dk_100 (dk_at dksX12_next_8 22 rfl rfl)
theorem dX12_next_214 : decode cX12_next 214 = .ok (.iconst 2, 1) := dk_5 (dk_at dksX12_next_8 23 rfl rfl)
theorem dX12_next_215 : decode cX12_next 215 = .ok (.if_icmp .le 7, 3) := dk_164 0 7 (dk_at dksX12_next_9 0 rfl rfl)
theorem dX12_next_218 : decode cX12_next 218 = .ok (.iconst 4, 1) := dk_7 (dk_at dksX12_next_9 3 rfl rfl)
theorem dX12_next_219 : decode cX12_next 219 = .ok (.goto 4, 3) := dk_167 0 4 (dk_at dksX12_next_9 4 rfl rfl)
theorem dX12_next_222 : decode cX12_next 222 = .ok (.iconst 2, 1) := dk_5 (dk_at dksX12_next_9 7 rfl rfl)
theorem dX12_next_223 : decode cX12_next 223 = .ok (.putfield 28, 3) := dk_181 0 28 (dk_at dksX12_next_9 8 rfl rfl)
theorem dX12_next_226 : decode cX12_next 226 = .ok (.goto 40, 3) := dk_167 0 40 (dk_at dksX12_next_9 11 rfl rfl)
theorem dX12_next_229 : decode cX12_next 229 = .ok (.aload_n 0, 1) := dk_42 (dk_at dksX12_next_9 14 rfl rfl)
theorem dX12_next_230 : decode cX12_next 230 = .ok (.aload_n 0, 1) := dk_42 (dk_at dksX12_next_9 15 rfl rfl)
theorem dX12_next_231 : decode cX12_next 231 = .ok (.getfield 25, 3) := dk_180 0 25 (dk_at dksX12_next_9 16 rfl rfl)
theorem dX12_next_234 : decode cX12_next 234 = .ok (.iconst 1, 1) := dk_4 (dk_at dksX12_next_9 19 rfl rfl)
theorem dX12_next_235 : decode cX12_next 235 = .ok (.iadd, 1) := dk_96 (dk_at dksX12_next_9 20 rfl rfl)
theorem dX12_next_236 : decode cX12_next 236 = .ok (.putfield 22, 3) := dk_181 0 22 (dk_at dksX12_next_9 21 rfl rfl)
theorem dX12_next_239 : decode cX12_next 239 = .ok (.aload_n 0, 1) := dk_42 (dk_at dksX12_next_10 0 rfl rfl)
theorem dX12_next_240 : decode cX12_next 240 = .ok (.ldc 41, 2) := dk_18 41 (dk_at dksX12_next_10 1 rfl rfl)
theorem dX12_next_242 : decode cX12_next 242 = .ok (.aload_n 0, 1) := dk_42 (dk_at dksX12_next_10 3 rfl rfl)
theorem dX12_next_243 : decode cX12_next 243 = .ok (.getfield 9, 3) := dk_180 0 9 (dk_at dksX12_next_10 4 rfl rfl)
theorem dX12_next_246 : decode cX12_next 246 = .ok (.aload_n 0, 1) := dk_42 (dk_at dksX12_next_10 7 rfl rfl)
theorem dX12_next_247 : decode cX12_next 247 = .ok (.getfield 25, 3) := dk_180 0 25 (dk_at dksX12_next_10 8 rfl rfl)
theorem dX12_next_250 : decode cX12_next 250 = .ok (.baload, 1) := dk_51 (dk_at dksX12_next_10 11 rfl rfl)
theorem dX12_next_251 : decode cX12_next 251 = .ok (.i2c, 1) := dk_146 (dk_at dksX12_next_10 12 rfl rfl)
theorem dX12_next_252 : decode cX12_next 252 = .ok (.invokevirtual 43, 3) := dk_182 0 43 (dk_at dksX12_next_10 13 rfl rfl)
theorem dX12_next_255 : decode cX12_next 255 = .ok (.ifCond .lt 7, 3) := dk_155 0 7 (dk_at dksX12_next_10 16 rfl rfl)
theorem dX12_next_258 : decode cX12_next 258 = .ok (.iconst 3, 1) := dk_6 (dk_at dksX12_next_10 19 rfl rfl)
theorem dX12_next_259 : decode cX12_next 259 = .ok (.goto 4, 3) := dk_167 0 4 (dk_at dksX12_next_10 20 rfl rfl)
theorem dX12_next_262 : decode cX12_next 262 = .ok (.iconst 4, 1) := dk_7 (dk_at dksX12_next_10 23 rfl rfl)
theorem dX12_next_263 : decode cX12_next 263 = .ok (.putfield 28, 3) := dk_181 0 28 (dk_at dksX12_next_11 0 rfl rfl)
theorem dX12_next_266 : decode cX12_next 266 = .ok (.return_, 1) := dk_177 (dk_at dksX12_next_11 3 rfl rfl)
abbrev cX12_isSmall : ByteArray := prog_17_method_2_code
def yX12_isSmall : MethodName := ⟨RX12, "isSmall", "(I)Z"⟩
def dkwX12_isSmall_1 : List UInt8 := [51, 16, 122, 163, 0, 7, 4, 167, 0, 4, 3, 172]
abbrev dktX12_isSmall_1 : List UInt8 := dkwX12_isSmall_1 ++ []
def dkwX12_isSmall_0 : List UInt8 := [27, 42, 180, 0, 15, 162, 0, 29, 42, 180, 0, 9, 27, 51, 16, 97, 161, 0, 18, 42, 180, 0, 9, 27]
abbrev dktX12_isSmall_0 : List UInt8 := dkwX12_isSmall_0 ++ dktX12_isSmall_1
theorem dksX12_isSmall_0 : cX12_isSmall.data.toList.drop 0 = dktX12_isSmall_0 := by decide +kernel
theorem dksX12_isSmall_1 : cX12_isSmall.data.toList.drop 24 = dktX12_isSmall_1 := dk_seg dksX12_isSmall_0 24 rfl rfl
theorem dX12_isSmall_0 : decode cX12_isSmall 0 = .ok (.iload_n 1, 1) := dk_27 (dk_at dksX12_isSmall_0 0 rfl rfl)
theorem dX12_isSmall_1 : decode cX12_isSmall 1 = .ok (.aload_n 0, 1) := dk_42 (dk_at dksX12_isSmall_0 1 rfl rfl)
theorem dX12_isSmall_2 : decode cX12_isSmall 2 = .ok (.getfield 15, 3) := dk_180 0 15 (dk_at dksX12_isSmall_0 2 rfl rfl)
theorem dX12_isSmall_5 : decode cX12_isSmall 5 = .ok (.if_icmp .ge 29, 3) := dk_162 0 29 (dk_at dksX12_isSmall_0 5 rfl rfl)
theorem dX12_isSmall_8 : decode cX12_isSmall 8 = .ok (.aload_n 0, 1) := dk_42 (dk_at dksX12_isSmall_0 8 rfl rfl)
theorem dX12_isSmall_9 : decode cX12_isSmall 9 = .ok (.getfield 9, 3) := dk_180 0 9 (dk_at dksX12_isSmall_0 9 rfl rfl)
theorem dX12_isSmall_12 : decode cX12_isSmall 12 = .ok (.iload_n 1, 1) := dk_27 (dk_at dksX12_isSmall_0 12 rfl rfl)
theorem dX12_isSmall_13 : decode cX12_isSmall 13 = .ok (.baload, 1) := dk_51 (dk_at dksX12_isSmall_0 13 rfl rfl)
theorem dX12_isSmall_14 : decode cX12_isSmall 14 = .ok (.bipush 97, 2) := dk_16 97 (dk_at dksX12_isSmall_0 14 rfl rfl)
theorem dX12_isSmall_16 : decode cX12_isSmall 16 = .ok (.if_icmp .lt 18, 3) := dk_161 0 18 (dk_at dksX12_isSmall_0 16 rfl rfl)
theorem dX12_isSmall_19 : decode cX12_isSmall 19 = .ok (.aload_n 0, 1) := dk_42 (dk_at dksX12_isSmall_0 19 rfl rfl)
theorem dX12_isSmall_20 : decode cX12_isSmall 20 = .ok (.getfield 9, 3) := dk_180 0 9 (dk_at dksX12_isSmall_0 20 rfl rfl)
theorem dX12_isSmall_23 : decode cX12_isSmall 23 = .ok (.iload_n 1, 1) := dk_27 (dk_at dksX12_isSmall_0 23 rfl rfl)
theorem dX12_isSmall_24 : decode cX12_isSmall 24 = .ok (.baload, 1) := dk_51 (dk_at dksX12_isSmall_1 0 rfl rfl)
theorem dX12_isSmall_25 : decode cX12_isSmall 25 = .ok (.bipush 122, 2) := dk_16 122 (dk_at dksX12_isSmall_1 1 rfl rfl)
theorem dX12_isSmall_27 : decode cX12_isSmall 27 = .ok (.if_icmp .gt 7, 3) := dk_163 0 7 (dk_at dksX12_isSmall_1 3 rfl rfl)
theorem dX12_isSmall_30 : decode cX12_isSmall 30 = .ok (.iconst 1, 1) := dk_4 (dk_at dksX12_isSmall_1 6 rfl rfl)
theorem dX12_isSmall_31 : decode cX12_isSmall 31 = .ok (.goto 4, 3) := dk_167 0 4 (dk_at dksX12_isSmall_1 7 rfl rfl)
theorem dX12_isSmall_34 : decode cX12_isSmall 34 = .ok (.iconst 0, 1) := dk_3 (dk_at dksX12_isSmall_1 10 rfl rfl)
theorem dX12_isSmall_35 : decode cX12_isSmall 35 = .ok (.ireturn, 1) := dk_172 (dk_at dksX12_isSmall_1 11 rfl rfl)
abbrev cX12_isDigit : ByteArray := prog_17_method_3_code
def yX12_isDigit : MethodName := ⟨RX12, "isDigit", "(I)Z"⟩
def dkwX12_isDigit_1 : List UInt8 := [51, 16, 57, 163, 0, 7, 4, 167, 0, 4, 3, 172]
abbrev dktX12_isDigit_1 : List UInt8 := dkwX12_isDigit_1 ++ []
def dkwX12_isDigit_0 : List UInt8 := [27, 42, 180, 0, 15, 162, 0, 29, 42, 180, 0, 9, 27, 51, 16, 48, 161, 0, 18, 42, 180, 0, 9, 27]
abbrev dktX12_isDigit_0 : List UInt8 := dkwX12_isDigit_0 ++ dktX12_isDigit_1
theorem dksX12_isDigit_0 : cX12_isDigit.data.toList.drop 0 = dktX12_isDigit_0 := by decide +kernel
theorem dksX12_isDigit_1 : cX12_isDigit.data.toList.drop 24 = dktX12_isDigit_1 := dk_seg dksX12_isDigit_0 24 rfl rfl
theorem dX12_isDigit_0 : decode cX12_isDigit 0 = .ok (.iload_n 1, 1) := dk_27 (dk_at dksX12_isDigit_0 0 rfl rfl)
theorem dX12_isDigit_1 : decode cX12_isDigit 1 = .ok (.aload_n 0, 1) := dk_42 (dk_at dksX12_isDigit_0 1 rfl rfl)
theorem dX12_isDigit_2 : decode cX12_isDigit 2 = .ok (.getfield 15, 3) := dk_180 0 15 (dk_at dksX12_isDigit_0 2 rfl rfl)
theorem dX12_isDigit_5 : decode cX12_isDigit 5 = .ok (.if_icmp .ge 29, 3) := dk_162 0 29 (dk_at dksX12_isDigit_0 5 rfl rfl)
theorem dX12_isDigit_8 : decode cX12_isDigit 8 = .ok (.aload_n 0, 1) := dk_42 (dk_at dksX12_isDigit_0 8 rfl rfl)
theorem dX12_isDigit_9 : decode cX12_isDigit 9 = .ok (.getfield 9, 3) := dk_180 0 9 (dk_at dksX12_isDigit_0 9 rfl rfl)
theorem dX12_isDigit_12 : decode cX12_isDigit 12 = .ok (.iload_n 1, 1) := dk_27 (dk_at dksX12_isDigit_0 12 rfl rfl)
theorem dX12_isDigit_13 : decode cX12_isDigit 13 = .ok (.baload, 1) := dk_51 (dk_at dksX12_isDigit_0 13 rfl rfl)
theorem dX12_isDigit_14 : decode cX12_isDigit 14 = .ok (.bipush 48, 2) := dk_16 48 (dk_at dksX12_isDigit_0 14 rfl rfl)
theorem dX12_isDigit_16 : decode cX12_isDigit 16 = .ok (.if_icmp .lt 18, 3) := dk_161 0 18 (dk_at dksX12_isDigit_0 16 rfl rfl)
theorem dX12_isDigit_19 : decode cX12_isDigit 19 = .ok (.aload_n 0, 1) := dk_42 (dk_at dksX12_isDigit_0 19 rfl rfl)
theorem dX12_isDigit_20 : decode cX12_isDigit 20 = .ok (.getfield 9, 3) := dk_180 0 9 (dk_at dksX12_isDigit_0 20 rfl rfl)
theorem dX12_isDigit_23 : decode cX12_isDigit 23 = .ok (.iload_n 1, 1) := dk_27 (dk_at dksX12_isDigit_0 23 rfl rfl)
theorem dX12_isDigit_24 : decode cX12_isDigit 24 = .ok (.baload, 1) := dk_51 (dk_at dksX12_isDigit_1 0 rfl rfl)
theorem dX12_isDigit_25 : decode cX12_isDigit 25 = .ok (.bipush 57, 2) := dk_16 57 (dk_at dksX12_isDigit_1 1 rfl rfl)
theorem dX12_isDigit_27 : decode cX12_isDigit 27 = .ok (.if_icmp .gt 7, 3) := dk_163 0 7 (dk_at dksX12_isDigit_1 3 rfl rfl)
theorem dX12_isDigit_30 : decode cX12_isDigit 30 = .ok (.iconst 1, 1) := dk_4 (dk_at dksX12_isDigit_1 6 rfl rfl)
theorem dX12_isDigit_31 : decode cX12_isDigit 31 = .ok (.goto 4, 3) := dk_167 0 4 (dk_at dksX12_isDigit_1 7 rfl rfl)
theorem dX12_isDigit_34 : decode cX12_isDigit 34 = .ok (.iconst 0, 1) := dk_3 (dk_at dksX12_isDigit_1 10 rfl rfl)
theorem dX12_isDigit_35 : decode cX12_isDigit 35 = .ok (.ireturn, 1) := dk_172 (dk_at dksX12_isDigit_1 11 rfl rfl)
abbrev cX12_all : ByteArray := prog_17_method_13_code
def yX12_all : MethodName := ⟨RX12, "all", "()I"⟩
def dkwX12_all_1 : List UInt8 := [182, 0, 66, 191, 42, 182, 0, 19, 132, 1, 1, 167, 255, 224, 27, 172]
abbrev dktX12_all_1 : List UInt8 := dkwX12_all_1 ++ []
def dkwX12_all_0 : List UInt8 := [3, 60, 42, 180, 0, 28, 153, 0, 31, 42, 182, 0, 78, 42, 16, 59, 182, 0, 81, 154, 0, 8, 42]
abbrev dktX12_all_0 : List UInt8 := dkwX12_all_0 ++ dktX12_all_1
theorem dksX12_all_0 : cX12_all.data.toList.drop 0 = dktX12_all_0 := by decide +kernel
theorem dksX12_all_1 : cX12_all.data.toList.drop 23 = dktX12_all_1 := dk_seg dksX12_all_0 23 rfl rfl
theorem dX12_all_0 : decode cX12_all 0 = .ok (.iconst 0, 1) := dk_3 (dk_at dksX12_all_0 0 rfl rfl)
theorem dX12_all_1 : decode cX12_all 1 = .ok (.istore_n 1, 1) := dk_60 (dk_at dksX12_all_0 1 rfl rfl)
theorem dX12_all_2 : decode cX12_all 2 = .ok (.aload_n 0, 1) := dk_42 (dk_at dksX12_all_0 2 rfl rfl)
theorem dX12_all_3 : decode cX12_all 3 = .ok (.getfield 28, 3) := dk_180 0 28 (dk_at dksX12_all_0 3 rfl rfl)
theorem dX12_all_6 : decode cX12_all 6 = .ok (.ifCond .eq 31, 3) := dk_153 0 31 (dk_at dksX12_all_0 6 rfl rfl)
theorem dX12_all_9 : decode cX12_all 9 = .ok (.aload_n 0, 1) := dk_42 (dk_at dksX12_all_0 9 rfl rfl)
theorem dX12_all_10 : decode cX12_all 10 = .ok (.invokevirtual 78, 3) := dk_182 0 78 (dk_at dksX12_all_0 10 rfl rfl)
theorem dX12_all_13 : decode cX12_all 13 = .ok (.aload_n 0, 1) := dk_42 (dk_at dksX12_all_0 13 rfl rfl)
theorem dX12_all_14 : decode cX12_all 14 = .ok (.bipush 59, 2) := dk_16 59 (dk_at dksX12_all_0 14 rfl rfl)
theorem dX12_all_16 : decode cX12_all 16 = .ok (.invokevirtual 81, 3) := dk_182 0 81 (dk_at dksX12_all_0 16 rfl rfl)
theorem dX12_all_19 : decode cX12_all 19 = .ok (.ifCond .ne 8, 3) := dk_154 0 8 (dk_at dksX12_all_0 19 rfl rfl)
theorem dX12_all_22 : decode cX12_all 22 = .ok (.aload_n 0, 1) := dk_42 (dk_at dksX12_all_0 22 rfl rfl)
theorem dX12_all_23 : decode cX12_all 23 = .ok (.invokevirtual 66, 3) := dk_182 0 66 (dk_at dksX12_all_1 0 rfl rfl)
theorem dX12_all_26 : decode cX12_all 26 = .ok (.athrow, 1) := dk_191 (dk_at dksX12_all_1 3 rfl rfl)
theorem dX12_all_27 : decode cX12_all 27 = .ok (.aload_n 0, 1) := dk_42 (dk_at dksX12_all_1 4 rfl rfl)
theorem dX12_all_28 : decode cX12_all 28 = .ok (.invokevirtual 19, 3) := dk_182 0 19 (dk_at dksX12_all_1 5 rfl rfl)
theorem dX12_all_31 : decode cX12_all 31 = .ok (.iinc 1 1, 3) := dk_132 1 1 (dk_at dksX12_all_1 8 rfl rfl)
theorem dX12_all_34 : decode cX12_all 34 = .ok (.goto (-32), 3) := dk_167 255 224 (dk_at dksX12_all_1 11 rfl rfl)
theorem dX12_all_37 : decode cX12_all 37 = .ok (.iload_n 1, 1) := dk_27 (dk_at dksX12_all_1 14 rfl rfl)
theorem dX12_all_38 : decode cX12_all 38 = .ok (.ireturn, 1) := dk_172 (dk_at dksX12_all_1 15 rfl rfl)
abbrev cX12_eats : ByteArray := prog_17_method_8_code
def yX12_eats : MethodName := ⟨RX12, "eats", "(Ljava/lang/String;)Z"⟩
def dkwX12_eats_0 : List UInt8 := [42, 43, 182, 0, 57, 61, 28, 153, 0, 7, 42, 182, 0, 19, 28, 172]
abbrev dktX12_eats_0 : List UInt8 := dkwX12_eats_0 ++ []
theorem dksX12_eats_0 : cX12_eats.data.toList.drop 0 = dktX12_eats_0 := by decide +kernel
theorem dX12_eats_0 : decode cX12_eats 0 = .ok (.aload_n 0, 1) := dk_42 (dk_at dksX12_eats_0 0 rfl rfl)
theorem dX12_eats_1 : decode cX12_eats 1 = .ok (.aload_n 1, 1) := dk_43 (dk_at dksX12_eats_0 1 rfl rfl)
theorem dX12_eats_2 : decode cX12_eats 2 = .ok (.invokevirtual 57, 3) := dk_182 0 57 (dk_at dksX12_eats_0 2 rfl rfl)
theorem dX12_eats_5 : decode cX12_eats 5 = .ok (.istore_n 2, 1) := dk_61 (dk_at dksX12_eats_0 5 rfl rfl)
theorem dX12_eats_6 : decode cX12_eats 6 = .ok (.iload_n 2, 1) := dk_28 (dk_at dksX12_eats_0 6 rfl rfl)
theorem dX12_eats_7 : decode cX12_eats 7 = .ok (.ifCond .eq 7, 3) := dk_153 0 7 (dk_at dksX12_eats_0 7 rfl rfl)
theorem dX12_eats_10 : decode cX12_eats 10 = .ok (.aload_n 0, 1) := dk_42 (dk_at dksX12_eats_0 10 rfl rfl)
theorem dX12_eats_11 : decode cX12_eats 11 = .ok (.invokevirtual 19, 3) := dk_182 0 19 (dk_at dksX12_eats_0 11 rfl rfl)
theorem dX12_eats_14 : decode cX12_eats 14 = .ok (.iload_n 2, 1) := dk_28 (dk_at dksX12_eats_0 14 rfl rfl)
theorem dX12_eats_15 : decode cX12_eats 15 = .ok (.ireturn, 1) := dk_172 (dk_at dksX12_eats_0 15 rfl rfl)
abbrev cX12_is : ByteArray := prog_17_method_7_code
def yX12_is : MethodName := ⟨RX12, "is", "(Ljava/lang/String;)Z"⟩
def dkwX12_is_2 : List UInt8 := [28, 182, 0, 53, 159, 0, 5, 3, 172, 132, 2, 1, 167, 255, 224, 4, 172]
abbrev dktX12_is_2 : List UInt8 := dkwX12_is_2 ++ []
def dkwX12_is_1 : List UInt8 := [3, 172, 3, 61, 28, 43, 182, 0, 49, 162, 0, 30, 42, 180, 0, 9, 42, 180, 0, 25, 28, 96, 51, 43]
abbrev dktX12_is_1 : List UInt8 := dkwX12_is_1 ++ dktX12_is_2
def dkwX12_is_0 : List UInt8 := [42, 180, 0, 28, 4, 160, 0, 19, 42, 180, 0, 22, 42, 180, 0, 25, 100, 43, 182, 0, 49, 159, 0, 5]
abbrev dktX12_is_0 : List UInt8 := dkwX12_is_0 ++ dktX12_is_1
theorem dksX12_is_0 : cX12_is.data.toList.drop 0 = dktX12_is_0 := by decide +kernel
theorem dksX12_is_1 : cX12_is.data.toList.drop 24 = dktX12_is_1 := dk_seg dksX12_is_0 24 rfl rfl
theorem dksX12_is_2 : cX12_is.data.toList.drop 48 = dktX12_is_2 := dk_seg dksX12_is_1 24 rfl rfl
theorem dX12_is_0 : decode cX12_is 0 = .ok (.aload_n 0, 1) := dk_42 (dk_at dksX12_is_0 0 rfl rfl)
theorem dX12_is_1 : decode cX12_is 1 = .ok (.getfield 28, 3) := dk_180 0 28 (dk_at dksX12_is_0 1 rfl rfl)
theorem dX12_is_4 : decode cX12_is 4 = .ok (.iconst 1, 1) := dk_4 (dk_at dksX12_is_0 4 rfl rfl)
theorem dX12_is_5 : decode cX12_is 5 = .ok (.if_icmp .ne 19, 3) := dk_160 0 19 (dk_at dksX12_is_0 5 rfl rfl)
theorem dX12_is_8 : decode cX12_is 8 = .ok (.aload_n 0, 1) := dk_42 (dk_at dksX12_is_0 8 rfl rfl)
theorem dX12_is_9 : decode cX12_is 9 = .ok (.getfield 22, 3) := dk_180 0 22 (dk_at dksX12_is_0 9 rfl rfl)
theorem dX12_is_12 : decode cX12_is 12 = .ok (.aload_n 0, 1) := dk_42 (dk_at dksX12_is_0 12 rfl rfl)
theorem dX12_is_13 : decode cX12_is 13 = .ok (.getfield 25, 3) := dk_180 0 25 (dk_at dksX12_is_0 13 rfl rfl)
theorem dX12_is_16 : decode cX12_is 16 = .ok (.isub, 1) := dk_100 (dk_at dksX12_is_0 16 rfl rfl)
theorem dX12_is_17 : decode cX12_is 17 = .ok (.aload_n 1, 1) := dk_43 (dk_at dksX12_is_0 17 rfl rfl)
theorem dX12_is_18 : decode cX12_is 18 = .ok (.invokevirtual 49, 3) := dk_182 0 49 (dk_at dksX12_is_0 18 rfl rfl)
theorem dX12_is_21 : decode cX12_is 21 = .ok (.if_icmp .eq 5, 3) := dk_159 0 5 (dk_at dksX12_is_0 21 rfl rfl)
theorem dX12_is_24 : decode cX12_is 24 = .ok (.iconst 0, 1) := dk_3 (dk_at dksX12_is_1 0 rfl rfl)
theorem dX12_is_25 : decode cX12_is 25 = .ok (.ireturn, 1) := dk_172 (dk_at dksX12_is_1 1 rfl rfl)
theorem dX12_is_26 : decode cX12_is 26 = .ok (.iconst 0, 1) := dk_3 (dk_at dksX12_is_1 2 rfl rfl)
theorem dX12_is_27 : decode cX12_is 27 = .ok (.istore_n 2, 1) := dk_61 (dk_at dksX12_is_1 3 rfl rfl)
theorem dX12_is_28 : decode cX12_is 28 = .ok (.iload_n 2, 1) := dk_28 (dk_at dksX12_is_1 4 rfl rfl)
theorem dX12_is_29 : decode cX12_is 29 = .ok (.aload_n 1, 1) := dk_43 (dk_at dksX12_is_1 5 rfl rfl)
theorem dX12_is_30 : decode cX12_is 30 = .ok (.invokevirtual 49, 3) := dk_182 0 49 (dk_at dksX12_is_1 6 rfl rfl)
theorem dX12_is_33 : decode cX12_is 33 = .ok (.if_icmp .ge 30, 3) := dk_162 0 30 (dk_at dksX12_is_1 9 rfl rfl)
theorem dX12_is_36 : decode cX12_is 36 = .ok (.aload_n 0, 1) := dk_42 (dk_at dksX12_is_1 12 rfl rfl)
theorem dX12_is_37 : decode cX12_is 37 = .ok (.getfield 9, 3) := dk_180 0 9 (dk_at dksX12_is_1 13 rfl rfl)
theorem dX12_is_40 : decode cX12_is 40 = .ok (.aload_n 0, 1) := dk_42 (dk_at dksX12_is_1 16 rfl rfl)
theorem dX12_is_41 : decode cX12_is 41 = .ok (.getfield 25, 3) := dk_180 0 25 (dk_at dksX12_is_1 17 rfl rfl)
theorem dX12_is_44 : decode cX12_is 44 = .ok (.iload_n 2, 1) := dk_28 (dk_at dksX12_is_1 20 rfl rfl)
theorem dX12_is_45 : decode cX12_is 45 = .ok (.iadd, 1) := dk_96 (dk_at dksX12_is_1 21 rfl rfl)
theorem dX12_is_46 : decode cX12_is 46 = .ok (.baload, 1) := dk_51 (dk_at dksX12_is_1 22 rfl rfl)
theorem dX12_is_47 : decode cX12_is 47 = .ok (.aload_n 1, 1) := dk_43 (dk_at dksX12_is_1 23 rfl rfl)
theorem dX12_is_48 : decode cX12_is 48 = .ok (.iload_n 2, 1) := dk_28 (dk_at dksX12_is_2 0 rfl rfl)
theorem dX12_is_49 : decode cX12_is 49 = .ok (.invokevirtual 53, 3) := dk_182 0 53 (dk_at dksX12_is_2 1 rfl rfl)
theorem dX12_is_52 : decode cX12_is 52 = .ok (.if_icmp .eq 5, 3) := dk_159 0 5 (dk_at dksX12_is_2 4 rfl rfl)
theorem dX12_is_55 : decode cX12_is 55 = .ok (.iconst 0, 1) := dk_3 (dk_at dksX12_is_2 7 rfl rfl)
theorem dX12_is_56 : decode cX12_is 56 = .ok (.ireturn, 1) := dk_172 (dk_at dksX12_is_2 8 rfl rfl)
theorem dX12_is_57 : decode cX12_is 57 = .ok (.iinc 2 1, 3) := dk_132 2 1 (dk_at dksX12_is_2 9 rfl rfl)
theorem dX12_is_60 : decode cX12_is 60 = .ok (.goto (-32), 3) := dk_167 255 224 (dk_at dksX12_is_2 12 rfl rfl)
theorem dX12_is_63 : decode cX12_is 63 = .ok (.iconst 1, 1) := dk_4 (dk_at dksX12_is_2 15 rfl rfl)
theorem dX12_is_64 : decode cX12_is 64 = .ok (.ireturn, 1) := dk_172 (dk_at dksX12_is_2 16 rfl rfl)
abbrev cX12_number : ByteArray := prog_17_method_11_code
def yX12_number : MethodName := ⟨RX12, "number", "(II)I"⟩
def dkwX12_number_1 : List UInt8 := [184, 0, 70, 154, 0, 9, 42, 6, 182, 0, 74, 191, 42, 180, 0, 38, 62, 42, 182, 0, 19, 29, 172]
abbrev dktX12_number_1 : List UInt8 := dkwX12_number_1 ++ []
def dkwX12_number_0 : List UInt8 := [42, 180, 0, 28, 5, 159, 0, 8, 42, 182, 0, 66, 191, 42, 180, 0, 38, 133, 27, 133, 28, 133]
abbrev dktX12_number_0 : List UInt8 := dkwX12_number_0 ++ dktX12_number_1
theorem dksX12_number_0 : cX12_number.data.toList.drop 0 = dktX12_number_0 := by decide +kernel
theorem dksX12_number_1 : cX12_number.data.toList.drop 22 = dktX12_number_1 := dk_seg dksX12_number_0 22 rfl rfl
theorem dX12_number_0 : decode cX12_number 0 = .ok (.aload_n 0, 1) := dk_42 (dk_at dksX12_number_0 0 rfl rfl)
theorem dX12_number_1 : decode cX12_number 1 = .ok (.getfield 28, 3) := dk_180 0 28 (dk_at dksX12_number_0 1 rfl rfl)
theorem dX12_number_4 : decode cX12_number 4 = .ok (.iconst 2, 1) := dk_5 (dk_at dksX12_number_0 4 rfl rfl)
theorem dX12_number_5 : decode cX12_number 5 = .ok (.if_icmp .eq 8, 3) := dk_159 0 8 (dk_at dksX12_number_0 5 rfl rfl)
theorem dX12_number_8 : decode cX12_number 8 = .ok (.aload_n 0, 1) := dk_42 (dk_at dksX12_number_0 8 rfl rfl)
theorem dX12_number_9 : decode cX12_number 9 = .ok (.invokevirtual 66, 3) := dk_182 0 66 (dk_at dksX12_number_0 9 rfl rfl)
theorem dX12_number_12 : decode cX12_number 12 = .ok (.athrow, 1) := dk_191 (dk_at dksX12_number_0 12 rfl rfl)
theorem dX12_number_13 : decode cX12_number 13 = .ok (.aload_n 0, 1) := dk_42 (dk_at dksX12_number_0 13 rfl rfl)
theorem dX12_number_14 : decode cX12_number 14 = .ok (.getfield 38, 3) := dk_180 0 38 (dk_at dksX12_number_0 14 rfl rfl)
theorem dX12_number_17 : decode cX12_number 17 = .ok (.i2l, 1) := dk_133 (dk_at dksX12_number_0 17 rfl rfl)
theorem dX12_number_18 : decode cX12_number 18 = .ok (.iload_n 1, 1) := dk_27 (dk_at dksX12_number_0 18 rfl rfl)
theorem dX12_number_19 : decode cX12_number 19 = .ok (.i2l, 1) := dk_133 (dk_at dksX12_number_0 19 rfl rfl)
theorem dX12_number_20 : decode cX12_number 20 = .ok (.iload_n 2, 1) := dk_28 (dk_at dksX12_number_0 20 rfl rfl)
theorem dX12_number_21 : decode cX12_number 21 = .ok (.i2l, 1) := dk_133 (dk_at dksX12_number_0 21 rfl rfl)
theorem dX12_number_22 : decode cX12_number 22 = .ok (.invokestatic 70, 3) := dk_184 0 70 (dk_at dksX12_number_1 0 rfl rfl)
theorem dX12_number_25 : decode cX12_number 25 = .ok (.ifCond .ne 9, 3) := dk_154 0 9 (dk_at dksX12_number_1 3 rfl rfl)
theorem dX12_number_28 : decode cX12_number 28 = .ok (.aload_n 0, 1) := dk_42 (dk_at dksX12_number_1 6 rfl rfl)
theorem dX12_number_29 : decode cX12_number 29 = .ok (.iconst 3, 1) := dk_6 (dk_at dksX12_number_1 7 rfl rfl)
theorem dX12_number_30 : decode cX12_number 30 = .ok (.invokevirtual 74, 3) := dk_182 0 74 (dk_at dksX12_number_1 8 rfl rfl)
theorem dX12_number_33 : decode cX12_number 33 = .ok (.athrow, 1) := dk_191 (dk_at dksX12_number_1 11 rfl rfl)
theorem dX12_number_34 : decode cX12_number 34 = .ok (.aload_n 0, 1) := dk_42 (dk_at dksX12_number_1 12 rfl rfl)
theorem dX12_number_35 : decode cX12_number 35 = .ok (.getfield 38, 3) := dk_180 0 38 (dk_at dksX12_number_1 13 rfl rfl)
theorem dX12_number_38 : decode cX12_number 38 = .ok (.istore_n 3, 1) := dk_62 (dk_at dksX12_number_1 16 rfl rfl)
theorem dX12_number_39 : decode cX12_number 39 = .ok (.aload_n 0, 1) := dk_42 (dk_at dksX12_number_1 17 rfl rfl)
theorem dX12_number_40 : decode cX12_number 40 = .ok (.invokevirtual 19, 3) := dk_182 0 19 (dk_at dksX12_number_1 18 rfl rfl)
theorem dX12_number_43 : decode cX12_number 43 = .ok (.iload_n 3, 1) := dk_29 (dk_at dksX12_number_1 21 rfl rfl)
theorem dX12_number_44 : decode cX12_number 44 = .ok (.ireturn, 1) := dk_172 (dk_at dksX12_number_1 22 rfl rfl)
abbrev cX12_wrong : ByteArray := prog_17_method_9_code
def yX12_wrong : MethodName := ⟨RX12, "wrong", "()LPumpCrossing$Bad;"⟩
def dkwX12_wrong_1 : List UInt8 := [176]
abbrev dktX12_wrong_1 : List UInt8 := dkwX12_wrong_1 ++ []
def dkwX12_wrong_0 : List UInt8 := [187, 0, 61, 89, 42, 180, 0, 28, 7, 160, 0, 7, 4, 167, 0, 4, 5, 42, 180, 0, 25, 183, 0, 63]
abbrev dktX12_wrong_0 : List UInt8 := dkwX12_wrong_0 ++ dktX12_wrong_1
theorem dksX12_wrong_0 : cX12_wrong.data.toList.drop 0 = dktX12_wrong_0 := by decide +kernel
theorem dksX12_wrong_1 : cX12_wrong.data.toList.drop 24 = dktX12_wrong_1 := dk_seg dksX12_wrong_0 24 rfl rfl
theorem dX12_wrong_0 : decode cX12_wrong 0 = .ok (.new 61, 3) := dk_187 0 61 (dk_at dksX12_wrong_0 0 rfl rfl)
theorem dX12_wrong_3 : decode cX12_wrong 3 = .ok (.dup, 1) := dk_89 (dk_at dksX12_wrong_0 3 rfl rfl)
theorem dX12_wrong_4 : decode cX12_wrong 4 = .ok (.aload_n 0, 1) := dk_42 (dk_at dksX12_wrong_0 4 rfl rfl)
theorem dX12_wrong_5 : decode cX12_wrong 5 = .ok (.getfield 28, 3) := dk_180 0 28 (dk_at dksX12_wrong_0 5 rfl rfl)
theorem dX12_wrong_8 : decode cX12_wrong 8 = .ok (.iconst 4, 1) := dk_7 (dk_at dksX12_wrong_0 8 rfl rfl)
theorem dX12_wrong_9 : decode cX12_wrong 9 = .ok (.if_icmp .ne 7, 3) := dk_160 0 7 (dk_at dksX12_wrong_0 9 rfl rfl)
theorem dX12_wrong_12 : decode cX12_wrong 12 = .ok (.iconst 1, 1) := dk_4 (dk_at dksX12_wrong_0 12 rfl rfl)
theorem dX12_wrong_13 : decode cX12_wrong 13 = .ok (.goto 4, 3) := dk_167 0 4 (dk_at dksX12_wrong_0 13 rfl rfl)
theorem dX12_wrong_16 : decode cX12_wrong 16 = .ok (.iconst 2, 1) := dk_5 (dk_at dksX12_wrong_0 16 rfl rfl)
theorem dX12_wrong_17 : decode cX12_wrong 17 = .ok (.aload_n 0, 1) := dk_42 (dk_at dksX12_wrong_0 17 rfl rfl)
theorem dX12_wrong_18 : decode cX12_wrong 18 = .ok (.getfield 25, 3) := dk_180 0 25 (dk_at dksX12_wrong_0 18 rfl rfl)
theorem dX12_wrong_21 : decode cX12_wrong 21 = .ok (.invokespecial 63, 3) := dk_183 0 63 (dk_at dksX12_wrong_0 21 rfl rfl)
theorem dX12_wrong_24 : decode cX12_wrong 24 = .ok (.areturn, 1) := dk_176 (dk_at dksX12_wrong_1 0 rfl rfl)
abbrev cX12_here : ByteArray := prog_17_method_10_code
def yX12_here : MethodName := ⟨RX12, "here", "(I)LPumpCrossing$Bad;"⟩
def dkwX12_here_0 : List UInt8 := [187, 0, 61, 89, 27, 42, 180, 0, 25, 183, 0, 63, 176]
abbrev dktX12_here_0 : List UInt8 := dkwX12_here_0 ++ []
theorem dksX12_here_0 : cX12_here.data.toList.drop 0 = dktX12_here_0 := by decide +kernel
theorem dX12_here_0 : decode cX12_here 0 = .ok (.new 61, 3) := dk_187 0 61 (dk_at dksX12_here_0 0 rfl rfl)
theorem dX12_here_3 : decode cX12_here 3 = .ok (.dup, 1) := dk_89 (dk_at dksX12_here_0 3 rfl rfl)
theorem dX12_here_4 : decode cX12_here 4 = .ok (.iload_n 1, 1) := dk_27 (dk_at dksX12_here_0 4 rfl rfl)
theorem dX12_here_5 : decode cX12_here 5 = .ok (.aload_n 0, 1) := dk_42 (dk_at dksX12_here_0 5 rfl rfl)
theorem dX12_here_6 : decode cX12_here 6 = .ok (.getfield 25, 3) := dk_180 0 25 (dk_at dksX12_here_0 6 rfl rfl)
theorem dX12_here_9 : decode cX12_here 9 = .ok (.invokespecial 63, 3) := dk_183 0 63 (dk_at dksX12_here_0 9 rfl rfl)
theorem dX12_here_12 : decode cX12_here 12 = .ok (.areturn, 1) := dk_176 (dk_at dksX12_here_0 12 rfl rfl)
abbrev cX12_isNumber : ByteArray := prog_17_method_6_code
def yX12_isNumber : MethodName := ⟨RX12, "isNumber", "()Z"⟩
def dkwX12_isNumber_0 : List UInt8 := [42, 180, 0, 28, 5, 160, 0, 7, 4, 167, 0, 4, 3, 172]
abbrev dktX12_isNumber_0 : List UInt8 := dkwX12_isNumber_0 ++ []
theorem dksX12_isNumber_0 : cX12_isNumber.data.toList.drop 0 = dktX12_isNumber_0 := by decide +kernel
theorem dX12_isNumber_0 : decode cX12_isNumber 0 = .ok (.aload_n 0, 1) := dk_42 (dk_at dksX12_isNumber_0 0 rfl rfl)
theorem dX12_isNumber_1 : decode cX12_isNumber 1 = .ok (.getfield 28, 3) := dk_180 0 28 (dk_at dksX12_isNumber_0 1 rfl rfl)
theorem dX12_isNumber_4 : decode cX12_isNumber 4 = .ok (.iconst 2, 1) := dk_5 (dk_at dksX12_isNumber_0 4 rfl rfl)
theorem dX12_isNumber_5 : decode cX12_isNumber 5 = .ok (.if_icmp .ne 7, 3) := dk_160 0 7 (dk_at dksX12_isNumber_0 5 rfl rfl)
theorem dX12_isNumber_8 : decode cX12_isNumber 8 = .ok (.iconst 1, 1) := dk_4 (dk_at dksX12_isNumber_0 8 rfl rfl)
theorem dX12_isNumber_9 : decode cX12_isNumber 9 = .ok (.goto 4, 3) := dk_167 0 4 (dk_at dksX12_isNumber_0 9 rfl rfl)
theorem dX12_isNumber_12 : decode cX12_isNumber 12 = .ok (.iconst 0, 1) := dk_3 (dk_at dksX12_isNumber_0 12 rfl rfl)
theorem dX12_isNumber_13 : decode cX12_isNumber 13 = .ok (.ireturn, 1) := dk_172 (dk_at dksX12_isNumber_0 13 rfl rfl)
abbrev cX12_isSign : ByteArray := prog_17_method_5_code
def yX12_isSign : MethodName := ⟨RX12, "isSign", "(C)Z"⟩
def dkwX12_isSign_1 : List UInt8 := [167, 0, 4, 3, 172]
abbrev dktX12_isSign_1 : List UInt8 := dkwX12_isSign_1 ++ []
def dkwX12_isSign_0 : List UInt8 := [42, 180, 0, 28, 6, 160, 0, 20, 42, 180, 0, 9, 42, 180, 0, 25, 51, 27, 160, 0, 7, 4]
abbrev dktX12_isSign_0 : List UInt8 := dkwX12_isSign_0 ++ dktX12_isSign_1
theorem dksX12_isSign_0 : cX12_isSign.data.toList.drop 0 = dktX12_isSign_0 := by decide +kernel
theorem dksX12_isSign_1 : cX12_isSign.data.toList.drop 22 = dktX12_isSign_1 := dk_seg dksX12_isSign_0 22 rfl rfl
theorem dX12_isSign_0 : decode cX12_isSign 0 = .ok (.aload_n 0, 1) := dk_42 (dk_at dksX12_isSign_0 0 rfl rfl)
theorem dX12_isSign_1 : decode cX12_isSign 1 = .ok (.getfield 28, 3) := dk_180 0 28 (dk_at dksX12_isSign_0 1 rfl rfl)
theorem dX12_isSign_4 : decode cX12_isSign 4 = .ok (.iconst 3, 1) := dk_6 (dk_at dksX12_isSign_0 4 rfl rfl)
theorem dX12_isSign_5 : decode cX12_isSign 5 = .ok (.if_icmp .ne 20, 3) := dk_160 0 20 (dk_at dksX12_isSign_0 5 rfl rfl)
theorem dX12_isSign_8 : decode cX12_isSign 8 = .ok (.aload_n 0, 1) := dk_42 (dk_at dksX12_isSign_0 8 rfl rfl)
theorem dX12_isSign_9 : decode cX12_isSign 9 = .ok (.getfield 9, 3) := dk_180 0 9 (dk_at dksX12_isSign_0 9 rfl rfl)
theorem dX12_isSign_12 : decode cX12_isSign 12 = .ok (.aload_n 0, 1) := dk_42 (dk_at dksX12_isSign_0 12 rfl rfl)
theorem dX12_isSign_13 : decode cX12_isSign 13 = .ok (.getfield 25, 3) := dk_180 0 25 (dk_at dksX12_isSign_0 13 rfl rfl)
theorem dX12_isSign_16 : decode cX12_isSign 16 = .ok (.baload, 1) := dk_51 (dk_at dksX12_isSign_0 16 rfl rfl)
theorem dX12_isSign_17 : decode cX12_isSign 17 = .ok (.iload_n 1, 1) := dk_27 (dk_at dksX12_isSign_0 17 rfl rfl)
theorem dX12_isSign_18 : decode cX12_isSign 18 = .ok (.if_icmp .ne 7, 3) := dk_160 0 7 (dk_at dksX12_isSign_0 18 rfl rfl)
theorem dX12_isSign_21 : decode cX12_isSign 21 = .ok (.iconst 1, 1) := dk_4 (dk_at dksX12_isSign_0 21 rfl rfl)
theorem dX12_isSign_22 : decode cX12_isSign 22 = .ok (.goto 4, 3) := dk_167 0 4 (dk_at dksX12_isSign_1 0 rfl rfl)
theorem dX12_isSign_25 : decode cX12_isSign 25 = .ok (.iconst 0, 1) := dk_3 (dk_at dksX12_isSign_1 3 rfl rfl)
theorem dX12_isSign_26 : decode cX12_isSign 26 = .ok (.ireturn, 1) := dk_172 (dk_at dksX12_isSign_1 4 rfl rfl)
theorem q123 : (Jvm.Cond.initialized "PumpCrossing$Reader") ∈ lw_all := lw_g (lw_at lw_m1 27 rfl) rfl
theorem q831 : (Jvm.Cond.instanceMethod ({ cls := "PumpCrossing$Reader", name := "<init>", desc := "([BI)V" } : Jvm.MethodName)) ∈ lw_all := lw_g (lw_at lw_m4 15 rfl) rfl
theorem q832 : (Jvm.Cond.code ({ cls := "PumpCrossing$Reader", name := "<init>", desc := "([BI)V" } : Jvm.MethodName) prog_17_method_1_code (3 : Nat) (Option.none : Option Jvm.ClassFile.FieldType)) ∈ lw_all := lw_g (lw_at lw_m4 16 rfl) rfl
theorem q833 : (Jvm.Cond.methodLink "PumpCrossing$Reader" (3 : Nat) ({ cls := "java/lang/Object", name := "<init>", desc := "()V" } : Jvm.MethodName)) ∈ lw_all := lw_g (lw_at lw_m4 17 rfl) rfl
theorem q834 : (Jvm.Cond.methodLink "PumpCrossing$Reader" (19 : Nat) ({ cls := "PumpCrossing$Reader", name := "next", desc := "()V" } : Jvm.MethodName)) ∈ lw_all := lw_g (lw_at lw_m4 18 rfl) rfl
theorem q835 : (Jvm.Cond.instanceMethod ({ cls := "PumpCrossing$Reader", name := "next", desc := "()V" } : Jvm.MethodName)) ∈ lw_all := lw_g (lw_at lw_m4 19 rfl) rfl
theorem q836 : (Jvm.Cond.sameMethod "PumpCrossing$Reader" "PumpCrossing$Reader" "next" "()V") ∈ lw_all := lw_g (lw_at lw_m4 20 rfl) rfl
theorem q839 : (Jvm.Cond.code ({ cls := "PumpCrossing$Reader", name := "next", desc := "()V" } : Jvm.MethodName) prog_17_method_4_code (1 : Nat) (Option.none : Option Jvm.ClassFile.FieldType)) ∈ lw_all := lw_g (lw_at lw_m4 23 rfl) rfl
theorem q840 : (Jvm.Cond.methodLink "PumpCrossing$Reader" (31 : Nat) ({ cls := "PumpCrossing$Reader", name := "isSmall", desc := "(I)Z" } : Jvm.MethodName)) ∈ lw_all := lw_g (lw_at lw_m4 24 rfl) rfl
theorem q841 : (Jvm.Cond.privateMethod ({ cls := "PumpCrossing$Reader", name := "isSmall", desc := "(I)Z" } : Jvm.MethodName)) ∈ lw_tbl := lw_at lw_m4 25 rfl
theorem q842 : (Jvm.Cond.instanceMethod ({ cls := "PumpCrossing$Reader", name := "isSmall", desc := "(I)Z" } : Jvm.MethodName)) ∈ lw_all := lw_g (lw_at lw_m4 26 rfl) rfl
theorem q843 : (Jvm.Cond.code ({ cls := "PumpCrossing$Reader", name := "isSmall", desc := "(I)Z" } : Jvm.MethodName) prog_17_method_2_code (2 : Nat) (Option.some Jvm.ClassFile.FieldType.boolean)) ∈ lw_all := lw_g (lw_at lw_m4 27 rfl) rfl
theorem q844 : (Jvm.Cond.methodLink "PumpCrossing$Reader" (35 : Nat) ({ cls := "PumpCrossing$Reader", name := "isDigit", desc := "(I)Z" } : Jvm.MethodName)) ∈ lw_all := lw_g (lw_at lw_m4 28 rfl) rfl
theorem q845 : (Jvm.Cond.privateMethod ({ cls := "PumpCrossing$Reader", name := "isDigit", desc := "(I)Z" } : Jvm.MethodName)) ∈ lw_tbl := lw_at lw_m4 29 rfl
theorem q846 : (Jvm.Cond.instanceMethod ({ cls := "PumpCrossing$Reader", name := "isDigit", desc := "(I)Z" } : Jvm.MethodName)) ∈ lw_all := lw_g (lw_at lw_m4 30 rfl) rfl
theorem q847 : (Jvm.Cond.code ({ cls := "PumpCrossing$Reader", name := "isDigit", desc := "(I)Z" } : Jvm.MethodName) prog_17_method_3_code (2 : Nat) (Option.some Jvm.ClassFile.FieldType.boolean)) ∈ lw_all := lw_g (lw_at lw_m4 31 rfl) rfl
theorem q848 : (Jvm.Cond.stringRef "PumpCrossing$Reader" (41 : Nat) ";<=>+-") ∈ lw_tbl := lw_at lw_m4 32 rfl
theorem q849 : (Jvm.Cond.methodLink "PumpCrossing$Reader" (43 : Nat) ({ cls := "java/lang/String", name := "indexOf", desc := "(I)I" } : Jvm.MethodName)) ∈ lw_all := lw_g (lw_at lw_m4 33 rfl) rfl
theorem q936 : (Jvm.Cond.fieldLink "PumpCrossing$Reader" (9 : Nat) "PumpCrossing$Reader" "tape" "[B") ∈ lw_all := lw_g (lw_at lw_m4 120 rfl) rfl
theorem q937 : (Jvm.Cond.fieldLink "PumpCrossing$Reader" (15 : Nat) "PumpCrossing$Reader" "size" "I") ∈ lw_all := lw_g (lw_at lw_m4 121 rfl) rfl
theorem q938 : (Jvm.Cond.fieldLink "PumpCrossing$Reader" (25 : Nat) "PumpCrossing$Reader" "at" "I") ∈ lw_all := lw_g (lw_at lw_m4 122 rfl) rfl
theorem q939 : (Jvm.Cond.fieldLink "PumpCrossing$Reader" (22 : Nat) "PumpCrossing$Reader" "behind" "I") ∈ lw_all := lw_g (lw_at lw_m4 123 rfl) rfl
theorem q940 : (Jvm.Cond.fieldLink "PumpCrossing$Reader" (28 : Nat) "PumpCrossing$Reader" "sort" "I") ∈ lw_all := lw_g (lw_at lw_m4 124 rfl) rfl
theorem q941 : (Jvm.Cond.fieldLink "PumpCrossing$Reader" (38 : Nat) "PumpCrossing$Reader" "number" "I") ∈ lw_all := lw_g (lw_at lw_m4 125 rfl) rfl
theorem q947 : (Jvm.Cond.soleField "PumpCrossing$Reader" "tape") ∈ lw_all := lw_g (lw_at lw_m4 131 rfl) rfl
theorem q949 : (Jvm.Cond.soleField "PumpCrossing$Reader" "size") ∈ lw_all := lw_g (lw_at lw_m4 133 rfl) rfl
theorem q951 : (Jvm.Cond.soleField "PumpCrossing$Reader" "at") ∈ lw_all := lw_g (lw_at lw_m4 135 rfl) rfl
theorem q953 : (Jvm.Cond.soleField "PumpCrossing$Reader" "behind") ∈ lw_all := lw_g (lw_at lw_m4 137 rfl) rfl
theorem q955 : (Jvm.Cond.soleField "PumpCrossing$Reader" "sort") ∈ lw_all := lw_g (lw_at lw_m4 139 rfl) rfl
theorem q957 : (Jvm.Cond.soleField "PumpCrossing$Reader" "number") ∈ lw_all := lw_g (lw_at lw_m4 141 rfl) rfl
theorem q965 : (Jvm.Cond.instanceMethod ({ cls := "PumpCrossing$Reader", name := "all", desc := "()I" } : Jvm.MethodName)) ∈ lw_all := lw_g (lw_at lw_m4 149 rfl) rfl
theorem q966 : (Jvm.Cond.sameMethod "PumpCrossing$Reader" "PumpCrossing$Reader" "all" "()I") ∈ lw_all := lw_g (lw_at lw_m4 150 rfl) rfl
theorem q969 : (Jvm.Cond.code ({ cls := "PumpCrossing$Reader", name := "all", desc := "()I" } : Jvm.MethodName) prog_17_method_13_code (2 : Nat) (Option.some Jvm.ClassFile.FieldType.int)) ∈ lw_all := lw_g (lw_at lw_m4 153 rfl) rfl
theorem q970 : (Jvm.Cond.methodLink "PumpCrossing$Reader" (78 : Nat) ({ cls := "PumpCrossing$Reader", name := "line", desc := "()V" } : Jvm.MethodName)) ∈ lw_all := lw_g (lw_at lw_m4 154 rfl) rfl
theorem q971 : (Jvm.Cond.declares ({ cls := "PumpCrossing$Reader", name := "line", desc := "()V" } : Jvm.MethodName)) ∈ lw_tbl := lw_at lw_m4 155 rfl
theorem q972 : (Jvm.Cond.sameMethod "PumpCrossing$Reader" "PumpCrossing$Reader" "line" "()V") ∈ lw_all := lw_g (lw_at lw_m4 156 rfl) rfl
theorem q979 : (Jvm.Cond.declares ({ cls := "PumpCrossing$Reader", name := "eats", desc := "(Ljava/lang/String;)Z" } : Jvm.MethodName)) ∈ lw_tbl := lw_at lw_m4 163 rfl
theorem q981 : (Jvm.Cond.instanceMethod ({ cls := "PumpCrossing$Reader", name := "eats", desc := "(Ljava/lang/String;)Z" } : Jvm.MethodName)) ∈ lw_all := lw_g (lw_at lw_m4 165 rfl) rfl
theorem q982 : (Jvm.Cond.code ({ cls := "PumpCrossing$Reader", name := "eats", desc := "(Ljava/lang/String;)Z" } : Jvm.MethodName) prog_17_method_8_code (3 : Nat) (Option.some Jvm.ClassFile.FieldType.boolean)) ∈ lw_all := lw_g (lw_at lw_m4 166 rfl) rfl
theorem q983 : (Jvm.Cond.methodLink "PumpCrossing$Reader" (57 : Nat) ({ cls := "PumpCrossing$Reader", name := "is", desc := "(Ljava/lang/String;)Z" } : Jvm.MethodName)) ∈ lw_all := lw_g (lw_at lw_m4 167 rfl) rfl
theorem q984 : (Jvm.Cond.instanceMethod ({ cls := "PumpCrossing$Reader", name := "is", desc := "(Ljava/lang/String;)Z" } : Jvm.MethodName)) ∈ lw_all := lw_g (lw_at lw_m4 168 rfl) rfl
theorem q985 : (Jvm.Cond.sameMethod "PumpCrossing$Reader" "PumpCrossing$Reader" "is" "(Ljava/lang/String;)Z") ∈ lw_all := lw_g (lw_at lw_m4 169 rfl) rfl
theorem q988 : (Jvm.Cond.code ({ cls := "PumpCrossing$Reader", name := "is", desc := "(Ljava/lang/String;)Z" } : Jvm.MethodName) prog_17_method_7_code (3 : Nat) (Option.some Jvm.ClassFile.FieldType.boolean)) ∈ lw_all := lw_g (lw_at lw_m4 172 rfl) rfl
theorem q989 : (Jvm.Cond.methodLink "PumpCrossing$Reader" (49 : Nat) ({ cls := "java/lang/String", name := "length", desc := "()I" } : Jvm.MethodName)) ∈ lw_all := lw_g (lw_at lw_m4 173 rfl) rfl
theorem q990 : (Jvm.Cond.methodLink "PumpCrossing$Reader" (53 : Nat) ({ cls := "java/lang/String", name := "charAt", desc := "(I)C" } : Jvm.MethodName)) ∈ lw_all := lw_g (lw_at lw_m4 174 rfl) rfl
theorem q1010 : (Jvm.Cond.declares ({ cls := "PumpCrossing$Reader", name := "number", desc := "(II)I" } : Jvm.MethodName)) ∈ lw_tbl := lw_at lw_m4 194 rfl
theorem q1012 : (Jvm.Cond.instanceMethod ({ cls := "PumpCrossing$Reader", name := "number", desc := "(II)I" } : Jvm.MethodName)) ∈ lw_all := lw_g (lw_at lw_m4 196 rfl) rfl
theorem q1013 : (Jvm.Cond.code ({ cls := "PumpCrossing$Reader", name := "number", desc := "(II)I" } : Jvm.MethodName) prog_17_method_11_code (4 : Nat) (Option.some Jvm.ClassFile.FieldType.int)) ∈ lw_all := lw_g (lw_at lw_m4 197 rfl) rfl
theorem q1014 : (Jvm.Cond.methodLink "PumpCrossing$Reader" (66 : Nat) ({ cls := "PumpCrossing$Reader", name := "wrong", desc := "()LPumpCrossing$Bad;" } : Jvm.MethodName)) ∈ lw_all := lw_g (lw_at lw_m4 198 rfl) rfl
theorem q1015 : (Jvm.Cond.instanceMethod ({ cls := "PumpCrossing$Reader", name := "wrong", desc := "()LPumpCrossing$Bad;" } : Jvm.MethodName)) ∈ lw_all := lw_g (lw_at lw_m4 199 rfl) rfl
theorem q1016 : (Jvm.Cond.sameMethod "PumpCrossing$Reader" "PumpCrossing$Reader" "wrong" "()LPumpCrossing$Bad;") ∈ lw_all := lw_g (lw_at lw_m4 200 rfl) rfl
theorem q1019 : (Jvm.Cond.code ({ cls := "PumpCrossing$Reader", name := "wrong", desc := "()LPumpCrossing$Bad;" } : Jvm.MethodName) prog_17_method_9_code (1 : Nat) (Option.some (Jvm.ClassFile.FieldType.object "PumpCrossing$Bad"))) ∈ lw_all := lw_g (lw_at lw_m4 203 rfl) rfl
theorem q1020 : (Jvm.Cond.classLink "PumpCrossing$Reader" (61 : Nat) "PumpCrossing$Bad") ∈ lw_all := lw_g (lw_at lw_m4 204 rfl) rfl
theorem q1029 : (Jvm.Cond.methodLink "PumpCrossing$Reader" (63 : Nat) ({ cls := "PumpCrossing$Bad", name := "<init>", desc := "(II)V" } : Jvm.MethodName)) ∈ lw_all := lw_g (lw_at lw_m4 213 rfl) rfl
theorem q1048 : (Jvm.Cond.methodLinkNest "PumpCrossing$Reader" (70 : Nat) ({ cls := "PumpCrossing", name := "isIn", desc := "(JJJ)Z" } : Jvm.MethodName) "PumpCrossing") ∈ lw_tbl := lw_at lw_m4 232 rfl
theorem q1049 : (Jvm.Cond.methodLink "PumpCrossing$Reader" (74 : Nat) ({ cls := "PumpCrossing$Reader", name := "here", desc := "(I)LPumpCrossing$Bad;" } : Jvm.MethodName)) ∈ lw_all := lw_g (lw_at lw_m4 233 rfl) rfl
theorem q1050 : (Jvm.Cond.instanceMethod ({ cls := "PumpCrossing$Reader", name := "here", desc := "(I)LPumpCrossing$Bad;" } : Jvm.MethodName)) ∈ lw_all := lw_g (lw_at lw_m4 234 rfl) rfl
theorem q1051 : (Jvm.Cond.sameMethod "PumpCrossing$Reader" "PumpCrossing$Reader" "here" "(I)LPumpCrossing$Bad;") ∈ lw_all := lw_g (lw_at lw_m4 235 rfl) rfl
theorem q1054 : (Jvm.Cond.code ({ cls := "PumpCrossing$Reader", name := "here", desc := "(I)LPumpCrossing$Bad;" } : Jvm.MethodName) prog_17_method_10_code (2 : Nat) (Option.some (Jvm.ClassFile.FieldType.object "PumpCrossing$Bad"))) ∈ lw_all := lw_g (lw_at lw_m4 238 rfl) rfl
theorem q1061 : (Jvm.Cond.declares ({ cls := "PumpCrossing$Reader", name := "wrong", desc := "()LPumpCrossing$Bad;" } : Jvm.MethodName)) ∈ lw_tbl := lw_at lw_m5 5 rfl
theorem q1070 : (Jvm.Cond.declares ({ cls := "PumpCrossing$Reader", name := "is", desc := "(Ljava/lang/String;)Z" } : Jvm.MethodName)) ∈ lw_tbl := lw_at lw_m5 14 rfl
theorem q1079 : (Jvm.Cond.declares ({ cls := "PumpCrossing$Reader", name := "here", desc := "(I)LPumpCrossing$Bad;" } : Jvm.MethodName)) ∈ lw_tbl := lw_at lw_m5 23 rfl
theorem q1165 : (Jvm.Cond.declares ({ cls := "PumpCrossing$Reader", name := "next", desc := "()V" } : Jvm.MethodName)) ∈ lw_tbl := lw_at lw_m5 109 rfl
theorem q1187 : (Jvm.Cond.declares ({ cls := "PumpCrossing$Reader", name := "isNumber", desc := "()Z" } : Jvm.MethodName)) ∈ lw_tbl := lw_at lw_m5 131 rfl
theorem q1189 : (Jvm.Cond.instanceMethod ({ cls := "PumpCrossing$Reader", name := "isNumber", desc := "()Z" } : Jvm.MethodName)) ∈ lw_all := lw_g (lw_at lw_m5 133 rfl) rfl
theorem q1190 : (Jvm.Cond.code ({ cls := "PumpCrossing$Reader", name := "isNumber", desc := "()Z" } : Jvm.MethodName) prog_17_method_6_code (1 : Nat) (Option.some Jvm.ClassFile.FieldType.boolean)) ∈ lw_all := lw_g (lw_at lw_m5 134 rfl) rfl
theorem q1222 : (Jvm.Cond.declares ({ cls := "PumpCrossing$Reader", name := "isSign", desc := "(C)Z" } : Jvm.MethodName)) ∈ lw_tbl := lw_at lw_m5 166 rfl
theorem q1224 : (Jvm.Cond.instanceMethod ({ cls := "PumpCrossing$Reader", name := "isSign", desc := "(C)Z" } : Jvm.MethodName)) ∈ lw_all := lw_g (lw_at lw_m5 168 rfl) rfl
theorem q1225 : (Jvm.Cond.code ({ cls := "PumpCrossing$Reader", name := "isSign", desc := "(C)Z" } : Jvm.MethodName) prog_17_method_5_code (2 : Nat) (Option.some Jvm.ClassFile.FieldType.boolean)) ∈ lw_all := lw_g (lw_at lw_m5 169 rfl) rfl
theorem q1257 : (Jvm.Cond.methodLink "PumpCrossing$Reader" (81 : Nat) ({ cls := "PumpCrossing$Reader", name := "isSign", desc := "(C)Z" } : Jvm.MethodName)) ∈ lw_all := lw_g (lw_at lw_m5 201 rfl) rfl
theorem q2401 : (Jvm.Cond.sameMethod "PumpCrossing$Reader" "PumpCrossing$Reader" "isSmall" "(I)Z") ∈ lw_all := lw_g (lw_at lw_m10 145 rfl) rfl
theorem q2402 : (Jvm.Cond.sameMethod "PumpCrossing$Reader" "PumpCrossing$Reader" "isDigit" "(I)Z") ∈ lw_all := lw_g (lw_at lw_m10 146 rfl) rfl
theorem q2403 : (Jvm.Cond.sameMethod "PumpCrossing$Reader" "PumpCrossing$Reader" "isSign" "(C)Z") ∈ lw_all := lw_g (lw_at lw_m10 147 rfl) rfl
/-! PumpCrossing$RuleReader -/
set_option maxRecDepth 100000
def RX13 : String := "PumpCrossing$RuleReader"
def TX13 : u_T := fun k => match k with
  | 0 => ("PumpCrossing$Reader", "tape", "[B", true)
  | 1 => ("PumpCrossing$Reader", "size", "I", true)
  | 2 => ("PumpCrossing$Reader", "at", "I", false)
  | 3 => ("PumpCrossing$Reader", "behind", "I", false)
  | 4 => ("PumpCrossing$Reader", "sort", "I", false)
  | 5 => ("PumpCrossing$Reader", "number", "I", false)
  | 6 => ("PumpCrossing$RuleReader", "made", "Ljava/util/ArrayList;", true)
  | _ => ("PumpCrossing$RuleReader", "nots", "I", false)
def tyX13 : Nat → FieldType := fun k => match k with
  | 0 => .array .byte
  | 1 => .int
  | 2 => .int
  | 3 => .int
  | 4 => .int
  | 5 => .int
  | 6 => .object "java/util/ArrayList"
  | _ => .int
abbrev wsX130 : List Cond := u_ws RX13 TX13 8
theorem nmX13 : ∀ a, a < 8 → ∀ b, b < 8 → a ≠ b → (TX13 a).2.1 ≠ (TX13 b).2.1 := by decide +kernel
theorem tyX13_ok : ∀ k, k < 8 → parseFieldDescriptor (TX13 k).2.2.1 = some (tyX13 k) := by decide +kernel
abbrev cX13_init : ByteArray := prog_19_method_1_code
def yX13_init : MethodName := ⟨RX13, "<init>", "([BI)V"⟩
def dkwX13_init_0 : List UInt8 := [42, 43, 28, 183, 0, 3, 42, 187, 0, 9, 89, 183, 0, 11, 181, 0, 14, 177]
abbrev dktX13_init_0 : List UInt8 := dkwX13_init_0 ++ []
theorem dksX13_init_0 : cX13_init.data.toList.drop 0 = dktX13_init_0 := by decide +kernel
theorem dX13_init_0 : decode cX13_init 0 = .ok (.aload_n 0, 1) := dk_42 (dk_at dksX13_init_0 0 rfl rfl)
theorem dX13_init_1 : decode cX13_init 1 = .ok (.aload_n 1, 1) := dk_43 (dk_at dksX13_init_0 1 rfl rfl)
theorem dX13_init_2 : decode cX13_init 2 = .ok (.iload_n 2, 1) := dk_28 (dk_at dksX13_init_0 2 rfl rfl)
theorem dX13_init_3 : decode cX13_init 3 = .ok (.invokespecial 3, 3) := dk_183 0 3 (dk_at dksX13_init_0 3 rfl rfl)
theorem dX13_init_6 : decode cX13_init 6 = .ok (.aload_n 0, 1) := dk_42 (dk_at dksX13_init_0 6 rfl rfl)
theorem dX13_init_7 : decode cX13_init 7 = .ok (.new 9, 3) := dk_187 0 9 (dk_at dksX13_init_0 7 rfl rfl)
theorem dX13_init_10 : decode cX13_init 10 = .ok (.dup, 1) := dk_89 (dk_at dksX13_init_0 10 rfl rfl)
theorem dX13_init_11 : decode cX13_init 11 = .ok (.invokespecial 11, 3) := dk_183 0 11 (dk_at dksX13_init_0 11 rfl rfl)
theorem dX13_init_14 : decode cX13_init 14 = .ok (.putfield 14, 3) := dk_181 0 14 (dk_at dksX13_init_0 14 rfl rfl)
theorem dX13_init_17 : decode cX13_init 17 = .ok (.return_, 1) := dk_177 (dk_at dksX13_init_0 17 rfl rfl)
abbrev cX13_line : ByteArray := prog_19_method_2_code
def yX13_line : MethodName := ⟨RX13, "line", "()V"⟩
def dkwX13_line_4 : List UInt8 := [182, 0, 55, 167, 0, 4, 1, 183, 0, 59, 182, 0, 62, 87, 177]
abbrev dktX13_line_4 : List UInt8 := dkwX13_line_4 ++ []
def dkwX13_line_3 : List UInt8 := [42, 182, 0, 44, 76, 42, 180, 0, 14, 187, 0, 48, 89, 43, 42, 18, 50, 182, 0, 52, 153, 0, 10, 42]
abbrev dktX13_line_3 : List UInt8 := dkwX13_line_3 ++ dktX13_line_4
def dkwX13_line_2 : List UInt8 := [42, 18, 36, 182, 0, 26, 154, 0, 12, 42, 18, 38, 182, 0, 26, 153, 0, 9, 42, 7, 182, 0, 40, 191]
abbrev dktX13_line_2 : List UInt8 := dkwX13_line_2 ++ dktX13_line_3
def dkwX13_line_1 : List UInt8 := [182, 0, 26, 154, 0, 39, 42, 18, 32, 182, 0, 26, 154, 0, 30, 42, 18, 34, 182, 0, 26, 154, 0, 21]
abbrev dktX13_line_1 : List UInt8 := dkwX13_line_1 ++ dktX13_line_2
def dkwX13_line_0 : List UInt8 := [42, 180, 0, 14, 182, 0, 20, 16, 12, 160, 0, 63, 42, 18, 24, 182, 0, 26, 154, 0, 48, 42, 18, 30]
abbrev dktX13_line_0 : List UInt8 := dkwX13_line_0 ++ dktX13_line_1
theorem dksX13_line_0 : cX13_line.data.toList.drop 0 = dktX13_line_0 := by decide +kernel
theorem dksX13_line_1 : cX13_line.data.toList.drop 24 = dktX13_line_1 := dk_seg dksX13_line_0 24 rfl rfl
theorem dksX13_line_2 : cX13_line.data.toList.drop 48 = dktX13_line_2 := dk_seg dksX13_line_1 24 rfl rfl
theorem dksX13_line_3 : cX13_line.data.toList.drop 72 = dktX13_line_3 := dk_seg dksX13_line_2 24 rfl rfl
theorem dksX13_line_4 : cX13_line.data.toList.drop 96 = dktX13_line_4 := dk_seg dksX13_line_3 24 rfl rfl
theorem dX13_line_0 : decode cX13_line 0 = .ok (.aload_n 0, 1) := dk_42 (dk_at dksX13_line_0 0 rfl rfl)
theorem dX13_line_1 : decode cX13_line 1 = .ok (.getfield 14, 3) := dk_180 0 14 (dk_at dksX13_line_0 1 rfl rfl)
theorem dX13_line_4 : decode cX13_line 4 = .ok (.invokevirtual 20, 3) := dk_182 0 20 (dk_at dksX13_line_0 4 rfl rfl)
theorem dX13_line_7 : decode cX13_line 7 = .ok (.bipush 12, 2) := dk_16 12 (dk_at dksX13_line_0 7 rfl rfl)
theorem dX13_line_9 : decode cX13_line 9 = .ok (.if_icmp .ne 63, 3) := dk_160 0 63 (dk_at dksX13_line_0 9 rfl rfl)
theorem dX13_line_12 : decode cX13_line 12 = .ok (.aload_n 0, 1) := dk_42 (dk_at dksX13_line_0 12 rfl rfl)
theorem dX13_line_13 : decode cX13_line 13 = .ok (.ldc 24, 2) := dk_18 24 (dk_at dksX13_line_0 13 rfl rfl)
theorem dX13_line_15 : decode cX13_line 15 = .ok (.invokevirtual 26, 3) := dk_182 0 26 (dk_at dksX13_line_0 15 rfl rfl)
theorem dX13_line_18 : decode cX13_line 18 = .ok (.ifCond .ne 48, 3) := dk_154 0 48 (dk_at dksX13_line_0 18 rfl rfl)
theorem dX13_line_21 : decode cX13_line 21 = .ok (.aload_n 0, 1) := dk_42 (dk_at dksX13_line_0 21 rfl rfl)
theorem dX13_line_22 : decode cX13_line 22 = .ok (.ldc 30, 2) := dk_18 30 (dk_at dksX13_line_0 22 rfl rfl)
theorem dX13_line_24 : decode cX13_line 24 = .ok (.invokevirtual 26, 3) := dk_182 0 26 (dk_at dksX13_line_1 0 rfl rfl)
theorem dX13_line_27 : decode cX13_line 27 = .ok (.ifCond .ne 39, 3) := dk_154 0 39 (dk_at dksX13_line_1 3 rfl rfl)
theorem dX13_line_30 : decode cX13_line 30 = .ok (.aload_n 0, 1) := dk_42 (dk_at dksX13_line_1 6 rfl rfl)
theorem dX13_line_31 : decode cX13_line 31 = .ok (.ldc 32, 2) := dk_18 32 (dk_at dksX13_line_1 7 rfl rfl)
theorem dX13_line_33 : decode cX13_line 33 = .ok (.invokevirtual 26, 3) := dk_182 0 26 (dk_at dksX13_line_1 9 rfl rfl)
theorem dX13_line_36 : decode cX13_line 36 = .ok (.ifCond .ne 30, 3) := dk_154 0 30 (dk_at dksX13_line_1 12 rfl rfl)
theorem dX13_line_39 : decode cX13_line 39 = .ok (.aload_n 0, 1) := dk_42 (dk_at dksX13_line_1 15 rfl rfl)
theorem dX13_line_40 : decode cX13_line 40 = .ok (.ldc 34, 2) := dk_18 34 (dk_at dksX13_line_1 16 rfl rfl)
theorem dX13_line_42 : decode cX13_line 42 = .ok (.invokevirtual 26, 3) := dk_182 0 26 (dk_at dksX13_line_1 18 rfl rfl)
theorem dX13_line_45 : decode cX13_line 45 = .ok (.ifCond .ne 21, 3) := dk_154 0 21 (dk_at dksX13_line_1 21 rfl rfl)
theorem dX13_line_48 : decode cX13_line 48 = .ok (.aload_n 0, 1) := dk_42 (dk_at dksX13_line_2 0 rfl rfl)
theorem dX13_line_49 : decode cX13_line 49 = .ok (.ldc 36, 2) := dk_18 36 (dk_at dksX13_line_2 1 rfl rfl)
theorem dX13_line_51 : decode cX13_line 51 = .ok (.invokevirtual 26, 3) := dk_182 0 26 (dk_at dksX13_line_2 3 rfl rfl)
theorem dX13_line_54 : decode cX13_line 54 = .ok (.ifCond .ne 12, 3) := dk_154 0 12 (dk_at dksX13_line_2 6 rfl rfl)
theorem dX13_line_57 : decode cX13_line 57 = .ok (.aload_n 0, 1) := dk_42 (dk_at dksX13_line_2 9 rfl rfl)
theorem dX13_line_58 : decode cX13_line 58 = .ok (.ldc 38, 2) := dk_18 38 (dk_at dksX13_line_2 10 rfl rfl)
theorem dX13_line_60 : decode cX13_line 60 = .ok (.invokevirtual 26, 3) := dk_182 0 26 (dk_at dksX13_line_2 12 rfl rfl)
theorem dX13_line_63 : decode cX13_line 63 = .ok (.ifCond .eq 9, 3) := dk_153 0 9 (dk_at dksX13_line_2 15 rfl rfl)
theorem dX13_line_66 : decode cX13_line 66 = .ok (.aload_n 0, 1) := dk_42 (dk_at dksX13_line_2 18 rfl rfl)
theorem dX13_line_67 : decode cX13_line 67 = .ok (.iconst 4, 1) := dk_7 (dk_at dksX13_line_2 19 rfl rfl)
theorem dX13_line_68 : decode cX13_line 68 = .ok (.invokevirtual 40, 3) := dk_182 0 40 (dk_at dksX13_line_2 20 rfl rfl)
theorem dX13_line_71 : decode cX13_line 71 = .ok (.athrow, 1) := dk_191 (dk_at dksX13_line_2 23 rfl rfl)
theorem dX13_line_72 : decode cX13_line 72 = .ok (.aload_n 0, 1) := dk_42 (dk_at dksX13_line_3 0 rfl rfl)
theorem dX13_line_73 : decode cX13_line 73 = .ok (.invokevirtual 44, 3) := dk_182 0 44 (dk_at dksX13_line_3 1 rfl rfl)
theorem dX13_line_76 : decode cX13_line 76 = .ok (.astore_n 1, 1) := dk_76 (dk_at dksX13_line_3 4 rfl rfl)
theorem dX13_line_77 : decode cX13_line 77 = .ok (.aload_n 0, 1) := dk_42 (dk_at dksX13_line_3 5 rfl rfl)
theorem dX13_line_78 : decode cX13_line 78 = .ok (.getfield 14, 3) := dk_180 0 14 (dk_at dksX13_line_3 6 rfl rfl)
theorem dX13_line_81 : decode cX13_line 81 = .ok (.new 48, 3) := dk_187 0 48 (dk_at dksX13_line_3 9 rfl rfl)
theorem dX13_line_84 : decode cX13_line 84 = .ok (.dup, 1) := dk_89 (dk_at dksX13_line_3 12 rfl rfl)
theorem dX13_line_85 : decode cX13_line 85 = .ok (.aload_n 1, 1) := dk_43 (dk_at dksX13_line_3 13 rfl rfl)
theorem dX13_line_86 : decode cX13_line 86 = .ok (.aload_n 0, 1) := dk_42 (dk_at dksX13_line_3 14 rfl rfl)
theorem dX13_line_87 : decode cX13_line 87 = .ok (.ldc 50, 2) := dk_18 50 (dk_at dksX13_line_3 15 rfl rfl)
theorem dX13_line_89 : decode cX13_line 89 = .ok (.invokevirtual 52, 3) := dk_182 0 52 (dk_at dksX13_line_3 17 rfl rfl)
theorem dX13_line_92 : decode cX13_line 92 = .ok (.ifCond .eq 10, 3) := dk_153 0 10 (dk_at dksX13_line_3 20 rfl rfl)
theorem dX13_line_95 : decode cX13_line 95 = .ok (.aload_n 0, 1) := dk_42 (dk_at dksX13_line_3 23 rfl rfl)
theorem dX13_line_96 : decode cX13_line 96 = .ok (.invokevirtual 55, 3) := dk_182 0 55 (dk_at dksX13_line_4 0 rfl rfl)
theorem dX13_line_99 : decode cX13_line 99 = .ok (.goto 4, 3) := dk_167 0 4 (dk_at dksX13_line_4 3 rfl rfl)
theorem dX13_line_102 : decode cX13_line 102 = .ok (.aconst_null, 1) := dk_1 (dk_at dksX13_line_4 6 rfl rfl)
theorem dX13_line_103 : decode cX13_line 103 = .ok (.invokespecial 59, 3) := dk_183 0 59 (dk_at dksX13_line_4 7 rfl rfl)
theorem dX13_line_106 : decode cX13_line 106 = .ok (.invokevirtual 62, 3) := dk_182 0 62 (dk_at dksX13_line_4 10 rfl rfl)
theorem dX13_line_109 : decode cX13_line 109 = .ok (.pop, 1) := dk_87 (dk_at dksX13_line_4 13 rfl rfl)
theorem dX13_line_110 : decode cX13_line 110 = .ok (.return_, 1) := dk_177 (dk_at dksX13_line_4 14 rfl rfl)
abbrev cX13_move : ByteArray := prog_19_method_3_code
def yX13_move : MethodName := ⟨RX13, "move", "()LPumpCrossing$Move;"⟩
def dkwX13_move_5 : List UInt8 := [153, 0, 11, 187, 0, 84, 89, 183, 0, 86, 176, 42, 182, 0, 87, 191]
abbrev dktX13_move_5 : List UInt8 := dkwX13_move_5 ++ []
def dkwX13_move_4 : List UInt8 := [42, 18, 36, 182, 0, 52, 153, 0, 12, 187, 0, 81, 89, 3, 183, 0, 83, 176, 42, 18, 38, 182, 0, 52]
abbrev dktX13_move_4 : List UInt8 := dkwX13_move_4 ++ dktX13_move_5
def dkwX13_move_3 : List UInt8 := [42, 18, 34, 182, 0, 52, 153, 0, 18, 187, 0, 81, 89, 42, 3, 16, 99, 182, 0, 68, 183, 0, 83, 176]
abbrev dktX13_move_3 : List UInt8 := dkwX13_move_3 ++ dktX13_move_4
def dkwX13_move_2 : List UInt8 := [42, 18, 32, 182, 0, 52, 153, 0, 18, 187, 0, 78, 89, 42, 3, 16, 99, 182, 0, 68, 183, 0, 80, 176]
abbrev dktX13_move_2 : List UInt8 := dkwX13_move_2 ++ dktX13_move_3
def dkwX13_move_1 : List UInt8 := [42, 18, 30, 182, 0, 52, 153, 0, 18, 187, 0, 75, 89, 42, 3, 16, 99, 182, 0, 68, 183, 0, 77, 176]
abbrev dktX13_move_1 : List UInt8 := dkwX13_move_1 ++ dktX13_move_2
def dkwX13_move_0 : List UInt8 := [42, 18, 24, 182, 0, 52, 153, 0, 18, 187, 0, 66, 89, 42, 3, 16, 99, 182, 0, 68, 183, 0, 72, 176]
abbrev dktX13_move_0 : List UInt8 := dkwX13_move_0 ++ dktX13_move_1
theorem dksX13_move_0 : cX13_move.data.toList.drop 0 = dktX13_move_0 := by decide +kernel
theorem dksX13_move_1 : cX13_move.data.toList.drop 24 = dktX13_move_1 := dk_seg dksX13_move_0 24 rfl rfl
theorem dksX13_move_2 : cX13_move.data.toList.drop 48 = dktX13_move_2 := dk_seg dksX13_move_1 24 rfl rfl
theorem dksX13_move_3 : cX13_move.data.toList.drop 72 = dktX13_move_3 := dk_seg dksX13_move_2 24 rfl rfl
theorem dksX13_move_4 : cX13_move.data.toList.drop 96 = dktX13_move_4 := dk_seg dksX13_move_3 24 rfl rfl
theorem dksX13_move_5 : cX13_move.data.toList.drop 120 = dktX13_move_5 := dk_seg dksX13_move_4 24 rfl rfl
theorem dX13_move_0 : decode cX13_move 0 = .ok (.aload_n 0, 1) := dk_42 (dk_at dksX13_move_0 0 rfl rfl)
theorem dX13_move_1 : decode cX13_move 1 = .ok (.ldc 24, 2) := dk_18 24 (dk_at dksX13_move_0 1 rfl rfl)
theorem dX13_move_3 : decode cX13_move 3 = .ok (.invokevirtual 52, 3) := dk_182 0 52 (dk_at dksX13_move_0 3 rfl rfl)
theorem dX13_move_6 : decode cX13_move 6 = .ok (.ifCond .eq 18, 3) := dk_153 0 18 (dk_at dksX13_move_0 6 rfl rfl)
theorem dX13_move_9 : decode cX13_move 9 = .ok (.new 66, 3) := dk_187 0 66 (dk_at dksX13_move_0 9 rfl rfl)
theorem dX13_move_12 : decode cX13_move 12 = .ok (.dup, 1) := dk_89 (dk_at dksX13_move_0 12 rfl rfl)
theorem dX13_move_13 : decode cX13_move 13 = .ok (.aload_n 0, 1) := dk_42 (dk_at dksX13_move_0 13 rfl rfl)
theorem dX13_move_14 : decode cX13_move 14 = .ok (.iconst 0, 1) := dk_3 (dk_at dksX13_move_0 14 rfl rfl)
theorem dX13_move_15 : decode cX13_move 15 = .ok (.bipush 99, 2) := dk_16 99 (dk_at dksX13_move_0 15 rfl rfl)
theorem dX13_move_17 : decode cX13_move 17 = .ok (.invokevirtual 68, 3) := dk_182 0 68 (dk_at dksX13_move_0 17 rfl rfl)
theorem dX13_move_20 : decode cX13_move 20 = .ok (.invokespecial 72, 3) := dk_183 0 72 (dk_at dksX13_move_0 20 rfl rfl)
theorem dX13_move_23 : decode cX13_move 23 = .ok (.areturn, 1) := dk_176 (dk_at dksX13_move_0 23 rfl rfl)
theorem dX13_move_24 : decode cX13_move 24 = .ok (.aload_n 0, 1) := dk_42 (dk_at dksX13_move_1 0 rfl rfl)
theorem dX13_move_25 : decode cX13_move 25 = .ok (.ldc 30, 2) := dk_18 30 (dk_at dksX13_move_1 1 rfl rfl)
theorem dX13_move_27 : decode cX13_move 27 = .ok (.invokevirtual 52, 3) := dk_182 0 52 (dk_at dksX13_move_1 3 rfl rfl)
theorem dX13_move_30 : decode cX13_move 30 = .ok (.ifCond .eq 18, 3) := dk_153 0 18 (dk_at dksX13_move_1 6 rfl rfl)
theorem dX13_move_33 : decode cX13_move 33 = .ok (.new 75, 3) := dk_187 0 75 (dk_at dksX13_move_1 9 rfl rfl)
theorem dX13_move_36 : decode cX13_move 36 = .ok (.dup, 1) := dk_89 (dk_at dksX13_move_1 12 rfl rfl)
theorem dX13_move_37 : decode cX13_move 37 = .ok (.aload_n 0, 1) := dk_42 (dk_at dksX13_move_1 13 rfl rfl)
theorem dX13_move_38 : decode cX13_move 38 = .ok (.iconst 0, 1) := dk_3 (dk_at dksX13_move_1 14 rfl rfl)
theorem dX13_move_39 : decode cX13_move 39 = .ok (.bipush 99, 2) := dk_16 99 (dk_at dksX13_move_1 15 rfl rfl)
theorem dX13_move_41 : decode cX13_move 41 = .ok (.invokevirtual 68, 3) := dk_182 0 68 (dk_at dksX13_move_1 17 rfl rfl)
theorem dX13_move_44 : decode cX13_move 44 = .ok (.invokespecial 77, 3) := dk_183 0 77 (dk_at dksX13_move_1 20 rfl rfl)
theorem dX13_move_47 : decode cX13_move 47 = .ok (.areturn, 1) := dk_176 (dk_at dksX13_move_1 23 rfl rfl)
theorem dX13_move_48 : decode cX13_move 48 = .ok (.aload_n 0, 1) := dk_42 (dk_at dksX13_move_2 0 rfl rfl)
theorem dX13_move_49 : decode cX13_move 49 = .ok (.ldc 32, 2) := dk_18 32 (dk_at dksX13_move_2 1 rfl rfl)
theorem dX13_move_51 : decode cX13_move 51 = .ok (.invokevirtual 52, 3) := dk_182 0 52 (dk_at dksX13_move_2 3 rfl rfl)
theorem dX13_move_54 : decode cX13_move 54 = .ok (.ifCond .eq 18, 3) := dk_153 0 18 (dk_at dksX13_move_2 6 rfl rfl)
theorem dX13_move_57 : decode cX13_move 57 = .ok (.new 78, 3) := dk_187 0 78 (dk_at dksX13_move_2 9 rfl rfl)
theorem dX13_move_60 : decode cX13_move 60 = .ok (.dup, 1) := dk_89 (dk_at dksX13_move_2 12 rfl rfl)
theorem dX13_move_61 : decode cX13_move 61 = .ok (.aload_n 0, 1) := dk_42 (dk_at dksX13_move_2 13 rfl rfl)
theorem dX13_move_62 : decode cX13_move 62 = .ok (.iconst 0, 1) := dk_3 (dk_at dksX13_move_2 14 rfl rfl)
theorem dX13_move_63 : decode cX13_move 63 = .ok (.bipush 99, 2) := dk_16 99 (dk_at dksX13_move_2 15 rfl rfl)
theorem dX13_move_65 : decode cX13_move 65 = .ok (.invokevirtual 68, 3) := dk_182 0 68 (dk_at dksX13_move_2 17 rfl rfl)
theorem dX13_move_68 : decode cX13_move 68 = .ok (.invokespecial 80, 3) := dk_183 0 80 (dk_at dksX13_move_2 20 rfl rfl)
theorem dX13_move_71 : decode cX13_move 71 = .ok (.areturn, 1) := dk_176 (dk_at dksX13_move_2 23 rfl rfl)
theorem dX13_move_72 : decode cX13_move 72 = .ok (.aload_n 0, 1) := dk_42 (dk_at dksX13_move_3 0 rfl rfl)
theorem dX13_move_73 : decode cX13_move 73 = .ok (.ldc 34, 2) := dk_18 34 (dk_at dksX13_move_3 1 rfl rfl)
theorem dX13_move_75 : decode cX13_move 75 = .ok (.invokevirtual 52, 3) := dk_182 0 52 (dk_at dksX13_move_3 3 rfl rfl)
theorem dX13_move_78 : decode cX13_move 78 = .ok (.ifCond .eq 18, 3) := dk_153 0 18 (dk_at dksX13_move_3 6 rfl rfl)
theorem dX13_move_81 : decode cX13_move 81 = .ok (.new 81, 3) := dk_187 0 81 (dk_at dksX13_move_3 9 rfl rfl)
theorem dX13_move_84 : decode cX13_move 84 = .ok (.dup, 1) := dk_89 (dk_at dksX13_move_3 12 rfl rfl)
theorem dX13_move_85 : decode cX13_move 85 = .ok (.aload_n 0, 1) := dk_42 (dk_at dksX13_move_3 13 rfl rfl)
theorem dX13_move_86 : decode cX13_move 86 = .ok (.iconst 0, 1) := dk_3 (dk_at dksX13_move_3 14 rfl rfl)
theorem dX13_move_87 : decode cX13_move 87 = .ok (.bipush 99, 2) := dk_16 99 (dk_at dksX13_move_3 15 rfl rfl)
theorem dX13_move_89 : decode cX13_move 89 = .ok (.invokevirtual 68, 3) := dk_182 0 68 (dk_at dksX13_move_3 17 rfl rfl)
theorem dX13_move_92 : decode cX13_move 92 = .ok (.invokespecial 83, 3) := dk_183 0 83 (dk_at dksX13_move_3 20 rfl rfl)
theorem dX13_move_95 : decode cX13_move 95 = .ok (.areturn, 1) := dk_176 (dk_at dksX13_move_3 23 rfl rfl)
theorem dX13_move_96 : decode cX13_move 96 = .ok (.aload_n 0, 1) := dk_42 (dk_at dksX13_move_4 0 rfl rfl)
theorem dX13_move_97 : decode cX13_move 97 = .ok (.ldc 36, 2) := dk_18 36 (dk_at dksX13_move_4 1 rfl rfl)
theorem dX13_move_99 : decode cX13_move 99 = .ok (.invokevirtual 52, 3) := dk_182 0 52 (dk_at dksX13_move_4 3 rfl rfl)
theorem dX13_move_102 : decode cX13_move 102 = .ok (.ifCond .eq 12, 3) := dk_153 0 12 (dk_at dksX13_move_4 6 rfl rfl)
theorem dX13_move_105 : decode cX13_move 105 = .ok (.new 81, 3) := dk_187 0 81 (dk_at dksX13_move_4 9 rfl rfl)
theorem dX13_move_108 : decode cX13_move 108 = .ok (.dup, 1) := dk_89 (dk_at dksX13_move_4 12 rfl rfl)
theorem dX13_move_109 : decode cX13_move 109 = .ok (.iconst 0, 1) := dk_3 (dk_at dksX13_move_4 13 rfl rfl)
theorem dX13_move_110 : decode cX13_move 110 = .ok (.invokespecial 83, 3) := dk_183 0 83 (dk_at dksX13_move_4 14 rfl rfl)
theorem dX13_move_113 : decode cX13_move 113 = .ok (.areturn, 1) := dk_176 (dk_at dksX13_move_4 17 rfl rfl)
theorem dX13_move_114 : decode cX13_move 114 = .ok (.aload_n 0, 1) := dk_42 (dk_at dksX13_move_4 18 rfl rfl)
theorem dX13_move_115 : decode cX13_move 115 = .ok (.ldc 38, 2) := dk_18 38 (dk_at dksX13_move_4 19 rfl rfl)
theorem dX13_move_117 : decode cX13_move 117 = .ok (.invokevirtual 52, 3) := dk_182 0 52 (dk_at dksX13_move_4 21 rfl rfl)
theorem dX13_move_120 : decode cX13_move 120 = .ok (.ifCond .eq 11, 3) := dk_153 0 11 (dk_at dksX13_move_5 0 rfl rfl)
theorem dX13_move_123 : decode cX13_move 123 = .ok (.new 84, 3) := dk_187 0 84 (dk_at dksX13_move_5 3 rfl rfl)
theorem dX13_move_126 : decode cX13_move 126 = .ok (.dup, 1) := dk_89 (dk_at dksX13_move_5 6 rfl rfl)
theorem dX13_move_127 : decode cX13_move 127 = .ok (.invokespecial 86, 3) := dk_183 0 86 (dk_at dksX13_move_5 7 rfl rfl)
theorem dX13_move_130 : decode cX13_move 130 = .ok (.areturn, 1) := dk_176 (dk_at dksX13_move_5 10 rfl rfl)
theorem dX13_move_131 : decode cX13_move 131 = .ok (.aload_n 0, 1) := dk_42 (dk_at dksX13_move_5 11 rfl rfl)
theorem dX13_move_132 : decode cX13_move 132 = .ok (.invokevirtual 87, 3) := dk_182 0 87 (dk_at dksX13_move_5 12 rfl rfl)
theorem dX13_move_135 : decode cX13_move 135 = .ok (.athrow, 1) := dk_191 (dk_at dksX13_move_5 15 rfl rfl)
abbrev cX13_any : ByteArray := prog_19_method_4_code
def yX13_any : MethodName := ⟨RX13, "any", "()LPumpCrossing$Term;"⟩
def dkwX13_any_1 : List UInt8 := [182, 0, 91, 183, 0, 98, 76, 167, 255, 232, 43, 176]
abbrev dktX13_any_1 : List UInt8 := dkwX13_any_1 ++ []
def dkwX13_any_0 : List UInt8 := [42, 182, 0, 91, 76, 42, 18, 94, 182, 0, 52, 153, 0, 21, 187, 0, 96, 89, 16, 124, 43, 42]
abbrev dktX13_any_0 : List UInt8 := dkwX13_any_0 ++ dktX13_any_1
theorem dksX13_any_0 : cX13_any.data.toList.drop 0 = dktX13_any_0 := by decide +kernel
theorem dksX13_any_1 : cX13_any.data.toList.drop 22 = dktX13_any_1 := dk_seg dksX13_any_0 22 rfl rfl
theorem dX13_any_0 : decode cX13_any 0 = .ok (.aload_n 0, 1) := dk_42 (dk_at dksX13_any_0 0 rfl rfl)
theorem dX13_any_1 : decode cX13_any 1 = .ok (.invokevirtual 91, 3) := dk_182 0 91 (dk_at dksX13_any_0 1 rfl rfl)
theorem dX13_any_4 : decode cX13_any 4 = .ok (.astore_n 1, 1) := dk_76 (dk_at dksX13_any_0 4 rfl rfl)
theorem dX13_any_5 : decode cX13_any 5 = .ok (.aload_n 0, 1) := dk_42 (dk_at dksX13_any_0 5 rfl rfl)
theorem dX13_any_6 : decode cX13_any 6 = .ok (.ldc 94, 2) := dk_18 94 (dk_at dksX13_any_0 6 rfl rfl)
theorem dX13_any_8 : decode cX13_any 8 = .ok (.invokevirtual 52, 3) := dk_182 0 52 (dk_at dksX13_any_0 8 rfl rfl)
theorem dX13_any_11 : decode cX13_any 11 = .ok (.ifCond .eq 21, 3) := dk_153 0 21 (dk_at dksX13_any_0 11 rfl rfl)
theorem dX13_any_14 : decode cX13_any 14 = .ok (.new 96, 3) := dk_187 0 96 (dk_at dksX13_any_0 14 rfl rfl)
theorem dX13_any_17 : decode cX13_any 17 = .ok (.dup, 1) := dk_89 (dk_at dksX13_any_0 17 rfl rfl)
theorem dX13_any_18 : decode cX13_any 18 = .ok (.bipush 124, 2) := dk_16 124 (dk_at dksX13_any_0 18 rfl rfl)
theorem dX13_any_20 : decode cX13_any 20 = .ok (.aload_n 1, 1) := dk_43 (dk_at dksX13_any_0 20 rfl rfl)
theorem dX13_any_21 : decode cX13_any 21 = .ok (.aload_n 0, 1) := dk_42 (dk_at dksX13_any_0 21 rfl rfl)
theorem dX13_any_22 : decode cX13_any 22 = .ok (.invokevirtual 91, 3) := dk_182 0 91 (dk_at dksX13_any_1 0 rfl rfl)
theorem dX13_any_25 : decode cX13_any 25 = .ok (.invokespecial 98, 3) := dk_183 0 98 (dk_at dksX13_any_1 3 rfl rfl)
theorem dX13_any_28 : decode cX13_any 28 = .ok (.astore_n 1, 1) := dk_76 (dk_at dksX13_any_1 6 rfl rfl)
theorem dX13_any_29 : decode cX13_any 29 = .ok (.goto (-24), 3) := dk_167 255 232 (dk_at dksX13_any_1 7 rfl rfl)
theorem dX13_any_32 : decode cX13_any 32 = .ok (.aload_n 1, 1) := dk_43 (dk_at dksX13_any_1 10 rfl rfl)
theorem dX13_any_33 : decode cX13_any 33 = .ok (.areturn, 1) := dk_176 (dk_at dksX13_any_1 11 rfl rfl)
abbrev cX13_both : ByteArray := prog_19_method_5_code
def yX13_both : MethodName := ⟨RX13, "both", "()LPumpCrossing$Term;"⟩
def dkwX13_both_1 : List UInt8 := [182, 0, 101, 183, 0, 98, 76, 167, 255, 232, 43, 176]
abbrev dktX13_both_1 : List UInt8 := dkwX13_both_1 ++ []
def dkwX13_both_0 : List UInt8 := [42, 182, 0, 101, 76, 42, 18, 104, 182, 0, 52, 153, 0, 21, 187, 0, 96, 89, 16, 38, 43, 42]
abbrev dktX13_both_0 : List UInt8 := dkwX13_both_0 ++ dktX13_both_1
theorem dksX13_both_0 : cX13_both.data.toList.drop 0 = dktX13_both_0 := by decide +kernel
theorem dksX13_both_1 : cX13_both.data.toList.drop 22 = dktX13_both_1 := dk_seg dksX13_both_0 22 rfl rfl
theorem dX13_both_0 : decode cX13_both 0 = .ok (.aload_n 0, 1) := dk_42 (dk_at dksX13_both_0 0 rfl rfl)
theorem dX13_both_1 : decode cX13_both 1 = .ok (.invokevirtual 101, 3) := dk_182 0 101 (dk_at dksX13_both_0 1 rfl rfl)
theorem dX13_both_4 : decode cX13_both 4 = .ok (.astore_n 1, 1) := dk_76 (dk_at dksX13_both_0 4 rfl rfl)
theorem dX13_both_5 : decode cX13_both 5 = .ok (.aload_n 0, 1) := dk_42 (dk_at dksX13_both_0 5 rfl rfl)
theorem dX13_both_6 : decode cX13_both 6 = .ok (.ldc 104, 2) := dk_18 104 (dk_at dksX13_both_0 6 rfl rfl)
theorem dX13_both_8 : decode cX13_both 8 = .ok (.invokevirtual 52, 3) := dk_182 0 52 (dk_at dksX13_both_0 8 rfl rfl)
theorem dX13_both_11 : decode cX13_both 11 = .ok (.ifCond .eq 21, 3) := dk_153 0 21 (dk_at dksX13_both_0 11 rfl rfl)
theorem dX13_both_14 : decode cX13_both 14 = .ok (.new 96, 3) := dk_187 0 96 (dk_at dksX13_both_0 14 rfl rfl)
theorem dX13_both_17 : decode cX13_both 17 = .ok (.dup, 1) := dk_89 (dk_at dksX13_both_0 17 rfl rfl)
theorem dX13_both_18 : decode cX13_both 18 = .ok (.bipush 38, 2) := dk_16 38 (dk_at dksX13_both_0 18 rfl rfl)
theorem dX13_both_20 : decode cX13_both 20 = .ok (.aload_n 1, 1) := dk_43 (dk_at dksX13_both_0 20 rfl rfl)
theorem dX13_both_21 : decode cX13_both 21 = .ok (.aload_n 0, 1) := dk_42 (dk_at dksX13_both_0 21 rfl rfl)
theorem dX13_both_22 : decode cX13_both 22 = .ok (.invokevirtual 101, 3) := dk_182 0 101 (dk_at dksX13_both_1 0 rfl rfl)
theorem dX13_both_25 : decode cX13_both 25 = .ok (.invokespecial 98, 3) := dk_183 0 98 (dk_at dksX13_both_1 3 rfl rfl)
theorem dX13_both_28 : decode cX13_both 28 = .ok (.astore_n 1, 1) := dk_76 (dk_at dksX13_both_1 6 rfl rfl)
theorem dX13_both_29 : decode cX13_both 29 = .ok (.goto (-24), 3) := dk_167 255 232 (dk_at dksX13_both_1 7 rfl rfl)
theorem dX13_both_32 : decode cX13_both 32 = .ok (.aload_n 1, 1) := dk_43 (dk_at dksX13_both_1 10 rfl rfl)
theorem dX13_both_33 : decode cX13_both 33 = .ok (.areturn, 1) := dk_176 (dk_at dksX13_both_1 11 rfl rfl)
abbrev cX13_one : ByteArray := prog_19_method_6_code
def yX13_one : MethodName := ⟨RX13, "one", "()LPumpCrossing$Term;"⟩
def dkwX13_one_5 : List UInt8 := [182, 0, 87, 191, 42, 182, 0, 112, 187, 0, 96, 89, 28, 43, 42, 182, 0, 120, 183, 0, 98, 176]
abbrev dktX13_one_5 : List UInt8 := dkwX13_one_5 ++ []
def dkwX13_one_4 : List UInt8 := [16, 62, 182, 0, 123, 153, 0, 8, 16, 62, 167, 0, 5, 16, 32, 61, 28, 16, 32, 160, 0, 8, 42]
abbrev dktX13_one_4 : List UInt8 := dkwX13_one_4 ++ dktX13_one_5
def dkwX13_one_3 : List UInt8 := [153, 0, 8, 16, 60, 167, 0, 33, 42, 16, 61, 182, 0, 123, 153, 0, 8, 16, 61, 167, 0, 19, 42]
abbrev dktX13_one_3 : List UInt8 := dkwX13_one_3 ++ dktX13_one_4
def dkwX13_one_2 : List UInt8 := [100, 181, 0, 108, 187, 0, 115, 89, 43, 183, 0, 117, 176, 42, 182, 0, 120, 76, 42, 16, 60, 182, 0, 123]
abbrev dktX13_one_2 : List UInt8 := dkwX13_one_2 ++ dktX13_one_3
def dkwX13_one_1 : List UInt8 := [182, 0, 112, 42, 89, 180, 0, 108, 4, 96, 181, 0, 108, 42, 182, 0, 101, 76, 42, 89, 180, 0, 108, 4]
abbrev dktX13_one_1 : List UInt8 := dkwX13_one_1 ++ dktX13_one_2
def dkwX13_one_0 : List UInt8 := [42, 18, 106, 182, 0, 26, 153, 0, 55, 42, 180, 0, 108, 7, 160, 0, 9, 42, 7, 182, 0, 40, 191, 42]
abbrev dktX13_one_0 : List UInt8 := dkwX13_one_0 ++ dktX13_one_1
theorem dksX13_one_0 : cX13_one.data.toList.drop 0 = dktX13_one_0 := by decide +kernel
theorem dksX13_one_1 : cX13_one.data.toList.drop 24 = dktX13_one_1 := dk_seg dksX13_one_0 24 rfl rfl
theorem dksX13_one_2 : cX13_one.data.toList.drop 48 = dktX13_one_2 := dk_seg dksX13_one_1 24 rfl rfl
theorem dksX13_one_3 : cX13_one.data.toList.drop 72 = dktX13_one_3 := dk_seg dksX13_one_2 24 rfl rfl
theorem dksX13_one_4 : cX13_one.data.toList.drop 95 = dktX13_one_4 := dk_seg dksX13_one_3 23 rfl rfl
theorem dksX13_one_5 : cX13_one.data.toList.drop 118 = dktX13_one_5 := dk_seg dksX13_one_4 23 rfl rfl
theorem dX13_one_0 : decode cX13_one 0 = .ok (.aload_n 0, 1) := dk_42 (dk_at dksX13_one_0 0 rfl rfl)
theorem dX13_one_1 : decode cX13_one 1 = .ok (.ldc 106, 2) := dk_18 106 (dk_at dksX13_one_0 1 rfl rfl)
theorem dX13_one_3 : decode cX13_one 3 = .ok (.invokevirtual 26, 3) := dk_182 0 26 (dk_at dksX13_one_0 3 rfl rfl)
theorem dX13_one_6 : decode cX13_one 6 = .ok (.ifCond .eq 55, 3) := dk_153 0 55 (dk_at dksX13_one_0 6 rfl rfl)
theorem dX13_one_9 : decode cX13_one 9 = .ok (.aload_n 0, 1) := dk_42 (dk_at dksX13_one_0 9 rfl rfl)
theorem dX13_one_10 : decode cX13_one 10 = .ok (.getfield 108, 3) := dk_180 0 108 (dk_at dksX13_one_0 10 rfl rfl)
theorem dX13_one_13 : decode cX13_one 13 = .ok (.iconst 4, 1) := dk_7 (dk_at dksX13_one_0 13 rfl rfl)
theorem dX13_one_14 : decode cX13_one 14 = .ok (.if_icmp .ne 9, 3) := dk_160 0 9 (dk_at dksX13_one_0 14 rfl rfl)
theorem dX13_one_17 : decode cX13_one 17 = .ok (.aload_n 0, 1) := dk_42 (dk_at dksX13_one_0 17 rfl rfl)
theorem dX13_one_18 : decode cX13_one 18 = .ok (.iconst 4, 1) := dk_7 (dk_at dksX13_one_0 18 rfl rfl)
theorem dX13_one_19 : decode cX13_one 19 = .ok (.invokevirtual 40, 3) := dk_182 0 40 (dk_at dksX13_one_0 19 rfl rfl)
theorem dX13_one_22 : decode cX13_one 22 = .ok (.athrow, 1) := dk_191 (dk_at dksX13_one_0 22 rfl rfl)
theorem dX13_one_23 : decode cX13_one 23 = .ok (.aload_n 0, 1) := dk_42 (dk_at dksX13_one_0 23 rfl rfl)
theorem dX13_one_24 : decode cX13_one 24 = .ok (.invokevirtual 112, 3) := dk_182 0 112 (dk_at dksX13_one_1 0 rfl rfl)
theorem dX13_one_27 : decode cX13_one 27 = .ok (.aload_n 0, 1) := dk_42 (dk_at dksX13_one_1 3 rfl rfl)
theorem dX13_one_28 : decode cX13_one 28 = .ok (.dup, 1) := dk_89 (dk_at dksX13_one_1 4 rfl rfl)
theorem dX13_one_29 : decode cX13_one 29 = .ok (.getfield 108, 3) := dk_180 0 108 (dk_at dksX13_one_1 5 rfl rfl)
theorem dX13_one_32 : decode cX13_one 32 = .ok (.iconst 1, 1) := dk_4 (dk_at dksX13_one_1 8 rfl rfl)
theorem dX13_one_33 : decode cX13_one 33 = .ok (.iadd, 1) := dk_96 (dk_at dksX13_one_1 9 rfl rfl)
theorem dX13_one_34 : decode cX13_one 34 = .ok (.putfield 108, 3) := dk_181 0 108 (dk_at dksX13_one_1 10 rfl rfl)
theorem dX13_one_37 : decode cX13_one 37 = .ok (.aload_n 0, 1) := dk_42 (dk_at dksX13_one_1 13 rfl rfl)
theorem dX13_one_38 : decode cX13_one 38 = .ok (.invokevirtual 101, 3) := dk_182 0 101 (dk_at dksX13_one_1 14 rfl rfl)
theorem dX13_one_41 : decode cX13_one 41 = .ok (.astore_n 1, 1) := dk_76 (dk_at dksX13_one_1 17 rfl rfl)
theorem dX13_one_42 : decode cX13_one 42 = .ok (.aload_n 0, 1) := dk_42 (dk_at dksX13_one_1 18 rfl rfl)
theorem dX13_one_43 : decode cX13_one 43 = .ok (.dup, 1) := dk_89 (dk_at dksX13_one_1 19 rfl rfl)
theorem dX13_one_44 : decode cX13_one 44 = .ok (.getfield 108, 3) := dk_180 0 108 (dk_at dksX13_one_1 20 rfl rfl)
theorem dX13_one_47 : decode cX13_one 47 = .ok (.iconst 1, 1) := dk_4 (dk_at dksX13_one_1 23 rfl rfl)
theorem dX13_one_48 : decode cX13_one 48 = .ok (.isub, 1) := dk_100 (dk_at dksX13_one_2 0 rfl rfl)
theorem dX13_one_49 : decode cX13_one 49 = .ok (.putfield 108, 3) := dk_181 0 108 (dk_at dksX13_one_2 1 rfl rfl)
theorem dX13_one_52 : decode cX13_one 52 = .ok (.new 115, 3) := dk_187 0 115 (dk_at dksX13_one_2 4 rfl rfl)
theorem dX13_one_55 : decode cX13_one 55 = .ok (.dup, 1) := dk_89 (dk_at dksX13_one_2 7 rfl rfl)
theorem dX13_one_56 : decode cX13_one 56 = .ok (.aload_n 1, 1) := dk_43 (dk_at dksX13_one_2 8 rfl rfl)
theorem dX13_one_57 : decode cX13_one 57 = .ok (.invokespecial 117, 3) := dk_183 0 117 (dk_at dksX13_one_2 9 rfl rfl)
theorem dX13_one_60 : decode cX13_one 60 = .ok (.areturn, 1) := dk_176 (dk_at dksX13_one_2 12 rfl rfl)
theorem dX13_one_61 : decode cX13_one 61 = .ok (.aload_n 0, 1) := dk_42 (dk_at dksX13_one_2 13 rfl rfl)
theorem dX13_one_62 : decode cX13_one 62 = .ok (.invokevirtual 120, 3) := dk_182 0 120 (dk_at dksX13_one_2 14 rfl rfl)
theorem dX13_one_65 : decode cX13_one 65 = .ok (.astore_n 1, 1) := dk_76 (dk_at dksX13_one_2 17 rfl rfl)
theorem dX13_one_66 : decode cX13_one 66 = .ok (.aload_n 0, 1) := dk_42 (dk_at dksX13_one_2 18 rfl rfl)
theorem dX13_one_67 : decode cX13_one 67 = .ok (.bipush 60, 2) := dk_16 60 (dk_at dksX13_one_2 19 rfl rfl)
theorem dX13_one_69 : decode cX13_one 69 = .ok (.invokevirtual 123, 3) := dk_182 0 123 (dk_at dksX13_one_2 21 rfl rfl)
theorem dX13_one_72 : decode cX13_one 72 = .ok (.ifCond .eq 8, 3) := dk_153 0 8 (dk_at dksX13_one_3 0 rfl rfl)
theorem dX13_one_75 : decode cX13_one 75 = .ok (.bipush 60, 2) := dk_16 60 (dk_at dksX13_one_3 3 rfl rfl)
theorem dX13_one_77 : decode cX13_one 77 = .ok (.goto 33, 3) := dk_167 0 33 (dk_at dksX13_one_3 5 rfl rfl)
theorem dX13_one_80 : decode cX13_one 80 = .ok (.aload_n 0, 1) := dk_42 (dk_at dksX13_one_3 8 rfl rfl)
theorem dX13_one_81 : decode cX13_one 81 = .ok (.bipush 61, 2) := dk_16 61 (dk_at dksX13_one_3 9 rfl rfl)
theorem dX13_one_83 : decode cX13_one 83 = .ok (.invokevirtual 123, 3) := dk_182 0 123 (dk_at dksX13_one_3 11 rfl rfl)
theorem dX13_one_86 : decode cX13_one 86 = .ok (.ifCond .eq 8, 3) := dk_153 0 8 (dk_at dksX13_one_3 14 rfl rfl)
theorem dX13_one_89 : decode cX13_one 89 = .ok (.bipush 61, 2) := dk_16 61 (dk_at dksX13_one_3 17 rfl rfl)
theorem dX13_one_91 : decode cX13_one 91 = .ok (.goto 19, 3) := dk_167 0 19 (dk_at dksX13_one_3 19 rfl rfl)
theorem dX13_one_94 : decode cX13_one 94 = .ok (.aload_n 0, 1) := dk_42 (dk_at dksX13_one_3 22 rfl rfl)
theorem dX13_one_95 : decode cX13_one 95 = .ok (.bipush 62, 2) := dk_16 62 (dk_at dksX13_one_4 0 rfl rfl)
theorem dX13_one_97 : decode cX13_one 97 = .ok (.invokevirtual 123, 3) := dk_182 0 123 (dk_at dksX13_one_4 2 rfl rfl)
theorem dX13_one_100 : decode cX13_one 100 = .ok (.ifCond .eq 8, 3) := dk_153 0 8 (dk_at dksX13_one_4 5 rfl rfl)
theorem dX13_one_103 : decode cX13_one 103 = .ok (.bipush 62, 2) := dk_16 62 (dk_at dksX13_one_4 8 rfl rfl)
theorem dX13_one_105 : decode cX13_one 105 = .ok (.goto 5, 3) := dk_167 0 5 (dk_at dksX13_one_4 10 rfl rfl)
theorem dX13_one_108 : decode cX13_one 108 = .ok (.bipush 32, 2) := dk_16 32 (dk_at dksX13_one_4 13 rfl rfl)
theorem dX13_one_110 : decode cX13_one 110 = .ok (.istore_n 2, 1) := dk_61 (dk_at dksX13_one_4 15 rfl rfl)
theorem dX13_one_111 : decode cX13_one 111 = .ok (.iload_n 2, 1) := dk_28 (dk_at dksX13_one_4 16 rfl rfl)
theorem dX13_one_112 : decode cX13_one 112 = .ok (.bipush 32, 2) := dk_16 32 (dk_at dksX13_one_4 17 rfl rfl)
theorem dX13_one_114 : decode cX13_one 114 = .ok (.if_icmp .ne 8, 3) := dk_160 0 8 (dk_at dksX13_one_4 19 rfl rfl)
theorem dX13_one_117 : decode cX13_one 117 = .ok (.aload_n 0, 1) := dk_42 (dk_at dksX13_one_4 22 rfl rfl)
theorem dX13_one_118 : decode cX13_one 118 = .ok (.invokevirtual 87, 3) := dk_182 0 87 (dk_at dksX13_one_5 0 rfl rfl)
theorem dX13_one_121 : decode cX13_one 121 = .ok (.athrow, 1) := dk_191 (dk_at dksX13_one_5 3 rfl rfl)
theorem dX13_one_122 : decode cX13_one 122 = .ok (.aload_n 0, 1) := dk_42 (dk_at dksX13_one_5 4 rfl rfl)
theorem dX13_one_123 : decode cX13_one 123 = .ok (.invokevirtual 112, 3) := dk_182 0 112 (dk_at dksX13_one_5 5 rfl rfl)
theorem dX13_one_126 : decode cX13_one 126 = .ok (.new 96, 3) := dk_187 0 96 (dk_at dksX13_one_5 8 rfl rfl)
theorem dX13_one_129 : decode cX13_one 129 = .ok (.dup, 1) := dk_89 (dk_at dksX13_one_5 11 rfl rfl)
theorem dX13_one_130 : decode cX13_one 130 = .ok (.iload_n 2, 1) := dk_28 (dk_at dksX13_one_5 12 rfl rfl)
theorem dX13_one_131 : decode cX13_one 131 = .ok (.aload_n 1, 1) := dk_43 (dk_at dksX13_one_5 13 rfl rfl)
theorem dX13_one_132 : decode cX13_one 132 = .ok (.aload_n 0, 1) := dk_42 (dk_at dksX13_one_5 14 rfl rfl)
theorem dX13_one_133 : decode cX13_one 133 = .ok (.invokevirtual 120, 3) := dk_182 0 120 (dk_at dksX13_one_5 15 rfl rfl)
theorem dX13_one_136 : decode cX13_one 136 = .ok (.invokespecial 98, 3) := dk_183 0 98 (dk_at dksX13_one_5 18 rfl rfl)
theorem dX13_one_139 : decode cX13_one 139 = .ok (.areturn, 1) := dk_176 (dk_at dksX13_one_5 21 rfl rfl)
abbrev cX13_sum : ByteArray := prog_19_method_7_code
def yX13_sum : MethodName := ⟨RX13, "sum", "()LPumpCrossing$Term;"⟩
def dkwX13_sum_2 : List UInt8 := [28, 43, 42, 182, 0, 127, 183, 0, 98, 76, 167, 255, 203, 43, 176]
abbrev dktX13_sum_2 : List UInt8 := dkwX13_sum_2 ++ []
def dkwX13_sum_1 : List UInt8 := [16, 43, 182, 0, 123, 153, 0, 8, 16, 43, 167, 0, 5, 16, 45, 61, 42, 182, 0, 112, 187, 0, 96, 89]
abbrev dktX13_sum_1 : List UInt8 := dkwX13_sum_1 ++ dktX13_sum_2
def dkwX13_sum_0 : List UInt8 := [42, 182, 0, 127, 76, 42, 16, 43, 182, 0, 123, 154, 0, 12, 42, 16, 45, 182, 0, 123, 153, 0, 41, 42]
abbrev dktX13_sum_0 : List UInt8 := dkwX13_sum_0 ++ dktX13_sum_1
theorem dksX13_sum_0 : cX13_sum.data.toList.drop 0 = dktX13_sum_0 := by decide +kernel
theorem dksX13_sum_1 : cX13_sum.data.toList.drop 24 = dktX13_sum_1 := dk_seg dksX13_sum_0 24 rfl rfl
theorem dksX13_sum_2 : cX13_sum.data.toList.drop 48 = dktX13_sum_2 := dk_seg dksX13_sum_1 24 rfl rfl
theorem dX13_sum_0 : decode cX13_sum 0 = .ok (.aload_n 0, 1) := dk_42 (dk_at dksX13_sum_0 0 rfl rfl)
theorem dX13_sum_1 : decode cX13_sum 1 = .ok (.invokevirtual 127, 3) := dk_182 0 127 (dk_at dksX13_sum_0 1 rfl rfl)
theorem dX13_sum_4 : decode cX13_sum 4 = .ok (.astore_n 1, 1) := dk_76 (dk_at dksX13_sum_0 4 rfl rfl)
theorem dX13_sum_5 : decode cX13_sum 5 = .ok (.aload_n 0, 1) := dk_42 (dk_at dksX13_sum_0 5 rfl rfl)
theorem dX13_sum_6 : decode cX13_sum 6 = .ok (.bipush 43, 2) := dk_16 43 (dk_at dksX13_sum_0 6 rfl rfl)
theorem dX13_sum_8 : decode cX13_sum 8 = .ok (.invokevirtual 123, 3) := dk_182 0 123 (dk_at dksX13_sum_0 8 rfl rfl)
theorem dX13_sum_11 : decode cX13_sum 11 = .ok (.ifCond .ne 12, 3) := dk_154 0 12 (dk_at dksX13_sum_0 11 rfl rfl)
theorem dX13_sum_14 : decode cX13_sum 14 = .ok (.aload_n 0, 1) := dk_42 (dk_at dksX13_sum_0 14 rfl rfl)
theorem dX13_sum_15 : decode cX13_sum 15 = .ok (.bipush 45, 2) := dk_16 45 (dk_at dksX13_sum_0 15 rfl rfl)
theorem dX13_sum_17 : decode cX13_sum 17 = .ok (.invokevirtual 123, 3) := dk_182 0 123 (dk_at dksX13_sum_0 17 rfl rfl)
theorem dX13_sum_20 : decode cX13_sum 20 = .ok (.ifCond .eq 41, 3) := dk_153 0 41 (dk_at dksX13_sum_0 20 rfl rfl)
theorem dX13_sum_23 : decode cX13_sum 23 = .ok (.aload_n 0, 1) := dk_42 (dk_at dksX13_sum_0 23 rfl rfl)
theorem dX13_sum_24 : decode cX13_sum 24 = .ok (.bipush 43, 2) := dk_16 43 (dk_at dksX13_sum_1 0 rfl rfl)
theorem dX13_sum_26 : decode cX13_sum 26 = .ok (.invokevirtual 123, 3) := dk_182 0 123 (dk_at dksX13_sum_1 2 rfl rfl)
theorem dX13_sum_29 : decode cX13_sum 29 = .ok (.ifCond .eq 8, 3) := dk_153 0 8 (dk_at dksX13_sum_1 5 rfl rfl)
theorem dX13_sum_32 : decode cX13_sum 32 = .ok (.bipush 43, 2) := dk_16 43 (dk_at dksX13_sum_1 8 rfl rfl)
theorem dX13_sum_34 : decode cX13_sum 34 = .ok (.goto 5, 3) := dk_167 0 5 (dk_at dksX13_sum_1 10 rfl rfl)
theorem dX13_sum_37 : decode cX13_sum 37 = .ok (.bipush 45, 2) := dk_16 45 (dk_at dksX13_sum_1 13 rfl rfl)
theorem dX13_sum_39 : decode cX13_sum 39 = .ok (.istore_n 2, 1) := dk_61 (dk_at dksX13_sum_1 15 rfl rfl)
theorem dX13_sum_40 : decode cX13_sum 40 = .ok (.aload_n 0, 1) := dk_42 (dk_at dksX13_sum_1 16 rfl rfl)
theorem dX13_sum_41 : decode cX13_sum 41 = .ok (.invokevirtual 112, 3) := dk_182 0 112 (dk_at dksX13_sum_1 17 rfl rfl)
theorem dX13_sum_44 : decode cX13_sum 44 = .ok (.new 96, 3) := dk_187 0 96 (dk_at dksX13_sum_1 20 rfl rfl)
theorem dX13_sum_47 : decode cX13_sum 47 = .ok (.dup, 1) := dk_89 (dk_at dksX13_sum_1 23 rfl rfl)
theorem dX13_sum_48 : decode cX13_sum 48 = .ok (.iload_n 2, 1) := dk_28 (dk_at dksX13_sum_2 0 rfl rfl)
theorem dX13_sum_49 : decode cX13_sum 49 = .ok (.aload_n 1, 1) := dk_43 (dk_at dksX13_sum_2 1 rfl rfl)
theorem dX13_sum_50 : decode cX13_sum 50 = .ok (.aload_n 0, 1) := dk_42 (dk_at dksX13_sum_2 2 rfl rfl)
theorem dX13_sum_51 : decode cX13_sum 51 = .ok (.invokevirtual 127, 3) := dk_182 0 127 (dk_at dksX13_sum_2 3 rfl rfl)
theorem dX13_sum_54 : decode cX13_sum 54 = .ok (.invokespecial 98, 3) := dk_183 0 98 (dk_at dksX13_sum_2 6 rfl rfl)
theorem dX13_sum_57 : decode cX13_sum 57 = .ok (.astore_n 1, 1) := dk_76 (dk_at dksX13_sum_2 9 rfl rfl)
theorem dX13_sum_58 : decode cX13_sum 58 = .ok (.goto (-53), 3) := dk_167 255 203 (dk_at dksX13_sum_2 10 rfl rfl)
theorem dX13_sum_61 : decode cX13_sum 61 = .ok (.aload_n 1, 1) := dk_43 (dk_at dksX13_sum_2 13 rfl rfl)
theorem dX13_sum_62 : decode cX13_sum 62 = .ok (.areturn, 1) := dk_176 (dk_at dksX13_sum_2 14 rfl rfl)
abbrev cX13_unit : ByteArray := prog_19_method_8_code
def yX13_unit : MethodName := ⟨RX13, "unit", "()LPumpCrossing$Term;"⟩
def dkwX13_unit_7 : List UInt8 := [183, 0, 157, 176]
abbrev dktX13_unit_7 : List UInt8 := dkwX13_unit_7 ++ []
def dkwX13_unit_6 : List UInt8 := [16, 8, 167, 0, 4, 2, 60, 27, 2, 160, 0, 8, 42, 182, 0, 87, 191, 187, 0, 155, 89, 27]
abbrev dktX13_unit_6 : List UInt8 := dkwX13_unit_6 ++ dktX13_unit_7
def dkwX13_unit_5 : List UInt8 := [42, 18, 151, 182, 0, 52, 153, 0, 8, 16, 7, 167, 0, 18, 42, 18, 153, 182, 0, 52, 153, 0, 8]
abbrev dktX13_unit_5 : List UInt8 := dkwX13_unit_5 ++ dktX13_unit_6
def dkwX13_unit_4 : List UInt8 := [182, 0, 52, 153, 0, 7, 8, 167, 0, 46, 42, 18, 149, 182, 0, 52, 153, 0, 8, 16, 6, 167, 0, 32]
abbrev dktX13_unit_4 : List UInt8 := dkwX13_unit_4 ++ dktX13_unit_5
def dkwX13_unit_3 : List UInt8 := [153, 0, 7, 6, 167, 0, 72, 42, 18, 145, 182, 0, 52, 153, 0, 7, 7, 167, 0, 59, 42, 18, 147]
abbrev dktX13_unit_3 : List UInt8 := dkwX13_unit_3 ++ dktX13_unit_4
def dkwX13_unit_2 : List UInt8 := [167, 0, 98, 42, 18, 141, 182, 0, 52, 153, 0, 7, 5, 167, 0, 85, 42, 18, 143, 182, 0, 52]
abbrev dktX13_unit_2 : List UInt8 := dkwX13_unit_2 ++ dktX13_unit_3
def dkwX13_unit_1 : List UInt8 := [18, 137, 182, 0, 52, 153, 0, 7, 3, 167, 0, 111, 42, 18, 139, 182, 0, 52, 153, 0, 7, 4]
abbrev dktX13_unit_1 : List UInt8 := dkwX13_unit_1 ++ dktX13_unit_2
def dkwX13_unit_0 : List UInt8 := [42, 182, 0, 130, 153, 0, 18, 187, 0, 134, 89, 42, 3, 16, 99, 182, 0, 68, 183, 0, 136, 176, 42]
abbrev dktX13_unit_0 : List UInt8 := dkwX13_unit_0 ++ dktX13_unit_1
theorem dksX13_unit_0 : cX13_unit.data.toList.drop 0 = dktX13_unit_0 := by decide +kernel
theorem dksX13_unit_1 : cX13_unit.data.toList.drop 23 = dktX13_unit_1 := dk_seg dksX13_unit_0 23 rfl rfl
theorem dksX13_unit_2 : cX13_unit.data.toList.drop 45 = dktX13_unit_2 := dk_seg dksX13_unit_1 22 rfl rfl
theorem dksX13_unit_3 : cX13_unit.data.toList.drop 67 = dktX13_unit_3 := dk_seg dksX13_unit_2 22 rfl rfl
theorem dksX13_unit_4 : cX13_unit.data.toList.drop 90 = dktX13_unit_4 := dk_seg dksX13_unit_3 23 rfl rfl
theorem dksX13_unit_5 : cX13_unit.data.toList.drop 114 = dktX13_unit_5 := dk_seg dksX13_unit_4 24 rfl rfl
theorem dksX13_unit_6 : cX13_unit.data.toList.drop 137 = dktX13_unit_6 := dk_seg dksX13_unit_5 23 rfl rfl
theorem dksX13_unit_7 : cX13_unit.data.toList.drop 159 = dktX13_unit_7 := dk_seg dksX13_unit_6 22 rfl rfl
theorem dX13_unit_0 : decode cX13_unit 0 = .ok (.aload_n 0, 1) := dk_42 (dk_at dksX13_unit_0 0 rfl rfl)
theorem dX13_unit_1 : decode cX13_unit 1 = .ok (.invokevirtual 130, 3) := dk_182 0 130 (dk_at dksX13_unit_0 1 rfl rfl)
theorem dX13_unit_4 : decode cX13_unit 4 = .ok (.ifCond .eq 18, 3) := dk_153 0 18 (dk_at dksX13_unit_0 4 rfl rfl)
theorem dX13_unit_7 : decode cX13_unit 7 = .ok (.new 134, 3) := dk_187 0 134 (dk_at dksX13_unit_0 7 rfl rfl)
theorem dX13_unit_10 : decode cX13_unit 10 = .ok (.dup, 1) := dk_89 (dk_at dksX13_unit_0 10 rfl rfl)
theorem dX13_unit_11 : decode cX13_unit 11 = .ok (.aload_n 0, 1) := dk_42 (dk_at dksX13_unit_0 11 rfl rfl)
theorem dX13_unit_12 : decode cX13_unit 12 = .ok (.iconst 0, 1) := dk_3 (dk_at dksX13_unit_0 12 rfl rfl)
theorem dX13_unit_13 : decode cX13_unit 13 = .ok (.bipush 99, 2) := dk_16 99 (dk_at dksX13_unit_0 13 rfl rfl)
theorem dX13_unit_15 : decode cX13_unit 15 = .ok (.invokevirtual 68, 3) := dk_182 0 68 (dk_at dksX13_unit_0 15 rfl rfl)
theorem dX13_unit_18 : decode cX13_unit 18 = .ok (.invokespecial 136, 3) := dk_183 0 136 (dk_at dksX13_unit_0 18 rfl rfl)
theorem dX13_unit_21 : decode cX13_unit 21 = .ok (.areturn, 1) := dk_176 (dk_at dksX13_unit_0 21 rfl rfl)
theorem dX13_unit_22 : decode cX13_unit 22 = .ok (.aload_n 0, 1) := dk_42 (dk_at dksX13_unit_0 22 rfl rfl)
theorem dX13_unit_23 : decode cX13_unit 23 = .ok (.ldc 137, 2) := dk_18 137 (dk_at dksX13_unit_1 0 rfl rfl)
theorem dX13_unit_25 : decode cX13_unit 25 = .ok (.invokevirtual 52, 3) := dk_182 0 52 (dk_at dksX13_unit_1 2 rfl rfl)
theorem dX13_unit_28 : decode cX13_unit 28 = .ok (.ifCond .eq 7, 3) := dk_153 0 7 (dk_at dksX13_unit_1 5 rfl rfl)
theorem dX13_unit_31 : decode cX13_unit 31 = .ok (.iconst 0, 1) := dk_3 (dk_at dksX13_unit_1 8 rfl rfl)
theorem dX13_unit_32 : decode cX13_unit 32 = .ok (.goto 111, 3) := dk_167 0 111 (dk_at dksX13_unit_1 9 rfl rfl)
theorem dX13_unit_35 : decode cX13_unit 35 = .ok (.aload_n 0, 1) := dk_42 (dk_at dksX13_unit_1 12 rfl rfl)
theorem dX13_unit_36 : decode cX13_unit 36 = .ok (.ldc 139, 2) := dk_18 139 (dk_at dksX13_unit_1 13 rfl rfl)
theorem dX13_unit_38 : decode cX13_unit 38 = .ok (.invokevirtual 52, 3) := dk_182 0 52 (dk_at dksX13_unit_1 15 rfl rfl)
theorem dX13_unit_41 : decode cX13_unit 41 = .ok (.ifCond .eq 7, 3) := dk_153 0 7 (dk_at dksX13_unit_1 18 rfl rfl)
theorem dX13_unit_44 : decode cX13_unit 44 = .ok (.iconst 1, 1) := dk_4 (dk_at dksX13_unit_1 21 rfl rfl)
theorem dX13_unit_45 : decode cX13_unit 45 = .ok (.goto 98, 3) := dk_167 0 98 (dk_at dksX13_unit_2 0 rfl rfl)
theorem dX13_unit_48 : decode cX13_unit 48 = .ok (.aload_n 0, 1) := dk_42 (dk_at dksX13_unit_2 3 rfl rfl)
theorem dX13_unit_49 : decode cX13_unit 49 = .ok (.ldc 141, 2) := dk_18 141 (dk_at dksX13_unit_2 4 rfl rfl)
theorem dX13_unit_51 : decode cX13_unit 51 = .ok (.invokevirtual 52, 3) := dk_182 0 52 (dk_at dksX13_unit_2 6 rfl rfl)
theorem dX13_unit_54 : decode cX13_unit 54 = .ok (.ifCond .eq 7, 3) := dk_153 0 7 (dk_at dksX13_unit_2 9 rfl rfl)
theorem dX13_unit_57 : decode cX13_unit 57 = .ok (.iconst 2, 1) := dk_5 (dk_at dksX13_unit_2 12 rfl rfl)
theorem dX13_unit_58 : decode cX13_unit 58 = .ok (.goto 85, 3) := dk_167 0 85 (dk_at dksX13_unit_2 13 rfl rfl)
theorem dX13_unit_61 : decode cX13_unit 61 = .ok (.aload_n 0, 1) := dk_42 (dk_at dksX13_unit_2 16 rfl rfl)
theorem dX13_unit_62 : decode cX13_unit 62 = .ok (.ldc 143, 2) := dk_18 143 (dk_at dksX13_unit_2 17 rfl rfl)
theorem dX13_unit_64 : decode cX13_unit 64 = .ok (.invokevirtual 52, 3) := dk_182 0 52 (dk_at dksX13_unit_2 19 rfl rfl)
theorem dX13_unit_67 : decode cX13_unit 67 = .ok (.ifCond .eq 7, 3) := dk_153 0 7 (dk_at dksX13_unit_3 0 rfl rfl)
theorem dX13_unit_70 : decode cX13_unit 70 = .ok (.iconst 3, 1) := dk_6 (dk_at dksX13_unit_3 3 rfl rfl)
theorem dX13_unit_71 : decode cX13_unit 71 = .ok (.goto 72, 3) := dk_167 0 72 (dk_at dksX13_unit_3 4 rfl rfl)
theorem dX13_unit_74 : decode cX13_unit 74 = .ok (.aload_n 0, 1) := dk_42 (dk_at dksX13_unit_3 7 rfl rfl)
theorem dX13_unit_75 : decode cX13_unit 75 = .ok (.ldc 145, 2) := dk_18 145 (dk_at dksX13_unit_3 8 rfl rfl)
theorem dX13_unit_77 : decode cX13_unit 77 = .ok (.invokevirtual 52, 3) := dk_182 0 52 (dk_at dksX13_unit_3 10 rfl rfl)
theorem dX13_unit_80 : decode cX13_unit 80 = .ok (.ifCond .eq 7, 3) := dk_153 0 7 (dk_at dksX13_unit_3 13 rfl rfl)
theorem dX13_unit_83 : decode cX13_unit 83 = .ok (.iconst 4, 1) := dk_7 (dk_at dksX13_unit_3 16 rfl rfl)
theorem dX13_unit_84 : decode cX13_unit 84 = .ok (.goto 59, 3) := dk_167 0 59 (dk_at dksX13_unit_3 17 rfl rfl)
theorem dX13_unit_87 : decode cX13_unit 87 = .ok (.aload_n 0, 1) := dk_42 (dk_at dksX13_unit_3 20 rfl rfl)
theorem dX13_unit_88 : decode cX13_unit 88 = .ok (.ldc 147, 2) := dk_18 147 (dk_at dksX13_unit_3 21 rfl rfl)
theorem dX13_unit_90 : decode cX13_unit 90 = .ok (.invokevirtual 52, 3) := dk_182 0 52 (dk_at dksX13_unit_4 0 rfl rfl)
theorem dX13_unit_93 : decode cX13_unit 93 = .ok (.ifCond .eq 7, 3) := dk_153 0 7 (dk_at dksX13_unit_4 3 rfl rfl)
theorem dX13_unit_96 : decode cX13_unit 96 = .ok (.iconst 5, 1) := dk_8 (dk_at dksX13_unit_4 6 rfl rfl)
theorem dX13_unit_97 : decode cX13_unit 97 = .ok (.goto 46, 3) := dk_167 0 46 (dk_at dksX13_unit_4 7 rfl rfl)
theorem dX13_unit_100 : decode cX13_unit 100 = .ok (.aload_n 0, 1) := dk_42 (dk_at dksX13_unit_4 10 rfl rfl)
theorem dX13_unit_101 : decode cX13_unit 101 = .ok (.ldc 149, 2) := dk_18 149 (dk_at dksX13_unit_4 11 rfl rfl)
theorem dX13_unit_103 : decode cX13_unit 103 = .ok (.invokevirtual 52, 3) := dk_182 0 52 (dk_at dksX13_unit_4 13 rfl rfl)
theorem dX13_unit_106 : decode cX13_unit 106 = .ok (.ifCond .eq 8, 3) := dk_153 0 8 (dk_at dksX13_unit_4 16 rfl rfl)
theorem dX13_unit_109 : decode cX13_unit 109 = .ok (.bipush 6, 2) := dk_16 6 (dk_at dksX13_unit_4 19 rfl rfl)
theorem dX13_unit_111 : decode cX13_unit 111 = .ok (.goto 32, 3) := dk_167 0 32 (dk_at dksX13_unit_4 21 rfl rfl)
theorem dX13_unit_114 : decode cX13_unit 114 = .ok (.aload_n 0, 1) := dk_42 (dk_at dksX13_unit_5 0 rfl rfl)
theorem dX13_unit_115 : decode cX13_unit 115 = .ok (.ldc 151, 2) := dk_18 151 (dk_at dksX13_unit_5 1 rfl rfl)
theorem dX13_unit_117 : decode cX13_unit 117 = .ok (.invokevirtual 52, 3) := dk_182 0 52 (dk_at dksX13_unit_5 3 rfl rfl)
theorem dX13_unit_120 : decode cX13_unit 120 = .ok (.ifCond .eq 8, 3) := dk_153 0 8 (dk_at dksX13_unit_5 6 rfl rfl)
theorem dX13_unit_123 : decode cX13_unit 123 = .ok (.bipush 7, 2) := dk_16 7 (dk_at dksX13_unit_5 9 rfl rfl)
theorem dX13_unit_125 : decode cX13_unit 125 = .ok (.goto 18, 3) := dk_167 0 18 (dk_at dksX13_unit_5 11 rfl rfl)
theorem dX13_unit_128 : decode cX13_unit 128 = .ok (.aload_n 0, 1) := dk_42 (dk_at dksX13_unit_5 14 rfl rfl)
theorem dX13_unit_129 : decode cX13_unit 129 = .ok (.ldc 153, 2) := dk_18 153 (dk_at dksX13_unit_5 15 rfl rfl)
theorem dX13_unit_131 : decode cX13_unit 131 = .ok (.invokevirtual 52, 3) := dk_182 0 52 (dk_at dksX13_unit_5 17 rfl rfl)
theorem dX13_unit_134 : decode cX13_unit 134 = .ok (.ifCond .eq 8, 3) := dk_153 0 8 (dk_at dksX13_unit_5 20 rfl rfl)
theorem dX13_unit_137 : decode cX13_unit 137 = .ok (.bipush 8, 2) := dk_16 8 (dk_at dksX13_unit_6 0 rfl rfl)
theorem dX13_unit_139 : decode cX13_unit 139 = .ok (.goto 4, 3) := dk_167 0 4 (dk_at dksX13_unit_6 2 rfl rfl)
theorem dX13_unit_142 : decode cX13_unit 142 = .ok (.iconst (-1), 1) := dk_2 (dk_at dksX13_unit_6 5 rfl rfl)
theorem dX13_unit_143 : decode cX13_unit 143 = .ok (.istore_n 1, 1) := dk_60 (dk_at dksX13_unit_6 6 rfl rfl)
theorem dX13_unit_144 : decode cX13_unit 144 = .ok (.iload_n 1, 1) := dk_27 (dk_at dksX13_unit_6 7 rfl rfl)
theorem dX13_unit_145 : decode cX13_unit 145 = .ok (.iconst (-1), 1) := dk_2 (dk_at dksX13_unit_6 8 rfl rfl)
theorem dX13_unit_146 : decode cX13_unit 146 = .ok (.if_icmp .ne 8, 3) := dk_160 0 8 (dk_at dksX13_unit_6 9 rfl rfl)
theorem dX13_unit_149 : decode cX13_unit 149 = .ok (.aload_n 0, 1) := dk_42 (dk_at dksX13_unit_6 12 rfl rfl)
theorem dX13_unit_150 : decode cX13_unit 150 = .ok (.invokevirtual 87, 3) := dk_182 0 87 (dk_at dksX13_unit_6 13 rfl rfl)
theorem dX13_unit_153 : decode cX13_unit 153 = .ok (.athrow, 1) := dk_191 (dk_at dksX13_unit_6 16 rfl rfl)
theorem dX13_unit_154 : decode cX13_unit 154 = .ok (.new 155, 3) := dk_187 0 155 (dk_at dksX13_unit_6 17 rfl rfl)
theorem dX13_unit_157 : decode cX13_unit 157 = .ok (.dup, 1) := dk_89 (dk_at dksX13_unit_6 20 rfl rfl)
theorem dX13_unit_158 : decode cX13_unit 158 = .ok (.iload_n 1, 1) := dk_27 (dk_at dksX13_unit_6 21 rfl rfl)
theorem dX13_unit_159 : decode cX13_unit 159 = .ok (.invokespecial 157, 3) := dk_183 0 157 (dk_at dksX13_unit_7 0 rfl rfl)
theorem dX13_unit_162 : decode cX13_unit 162 = .ok (.areturn, 1) := dk_176 (dk_at dksX13_unit_7 3 rfl rfl)
theorem q124 : (Jvm.Cond.initialized "PumpCrossing$RuleReader") ∈ lw_all := lw_g (lw_at lw_m1 28 rfl) rfl
theorem q692 : (Jvm.Cond.selects "PumpCrossing$RuleReader" ({ cls := "java/lang/Object", name := "getClass", desc := "()Ljava/lang/Class;" } : Jvm.MethodName) ({ cls := "java/lang/Object", name := "getClass", desc := "()Ljava/lang/Class;" } : Jvm.MethodName)) ∈ lw_all := lw_g (lw_at lw_m3 116 rfl) rfl
theorem q826 : (Jvm.Cond.instantiable "PumpCrossing$RuleReader" (8 : Nat)) ∈ lw_all := lw_g (lw_at lw_m4 10 rfl) rfl
theorem q828 : (Jvm.Cond.instanceMethod ({ cls := "PumpCrossing$RuleReader", name := "<init>", desc := "([BI)V" } : Jvm.MethodName)) ∈ lw_all := lw_g (lw_at lw_m4 12 rfl) rfl
theorem q829 : (Jvm.Cond.code ({ cls := "PumpCrossing$RuleReader", name := "<init>", desc := "([BI)V" } : Jvm.MethodName) prog_19_method_1_code (3 : Nat) (Option.none : Option Jvm.ClassFile.FieldType)) ∈ lw_all := lw_g (lw_at lw_m4 13 rfl) rfl
theorem q830 : (Jvm.Cond.methodLink "PumpCrossing$RuleReader" (3 : Nat) ({ cls := "PumpCrossing$Reader", name := "<init>", desc := "([BI)V" } : Jvm.MethodName)) ∈ lw_all := lw_g (lw_at lw_m4 14 rfl) rfl
theorem q838 : (Jvm.Cond.selects "PumpCrossing$RuleReader" ({ cls := "PumpCrossing$Reader", name := "next", desc := "()V" } : Jvm.MethodName) ({ cls := "PumpCrossing$Reader", name := "next", desc := "()V" } : Jvm.MethodName)) ∈ lw_all := lw_g (lw_at lw_m4 22 rfl) rfl
theorem q931 : (Jvm.Cond.classLink "PumpCrossing$RuleReader" (9 : Nat) "java/util/ArrayList") ∈ lw_all := lw_g (lw_at lw_m4 115 rfl) rfl
theorem q932 : (Jvm.Cond.methodLink "PumpCrossing$RuleReader" (11 : Nat) ({ cls := "java/util/ArrayList", name := "<init>", desc := "()V" } : Jvm.MethodName)) ∈ lw_all := lw_g (lw_at lw_m4 116 rfl) rfl
theorem q933 : (Jvm.Cond.fieldLink "PumpCrossing$RuleReader" (14 : Nat) "PumpCrossing$RuleReader" "made" "Ljava/util/ArrayList;") ∈ lw_all := lw_g (lw_at lw_m4 117 rfl) rfl
theorem q935 : (Jvm.Cond.fieldLink "PumpCrossing$RuleReader" (108 : Nat) "PumpCrossing$RuleReader" "nots" "I") ∈ lw_all := lw_g (lw_at lw_m4 119 rfl) rfl
theorem q942 : (Jvm.Cond.laysFinal "PumpCrossing$RuleReader" "PumpCrossing$RuleReader" "made" "Ljava/util/ArrayList;") ∈ lw_all := lw_g (lw_at lw_m4 126 rfl) rfl
theorem q943 : (Jvm.Cond.soleField "PumpCrossing$RuleReader" "made") ∈ lw_all := lw_g (lw_at lw_m4 127 rfl) rfl
theorem q944 : (Jvm.Cond.lays "PumpCrossing$RuleReader" "PumpCrossing$RuleReader" "nots" "I") ∈ lw_all := lw_g (lw_at lw_m4 128 rfl) rfl
theorem q945 : (Jvm.Cond.soleField "PumpCrossing$RuleReader" "nots") ∈ lw_all := lw_g (lw_at lw_m4 129 rfl) rfl
theorem q946 : (Jvm.Cond.laysFinal "PumpCrossing$RuleReader" "PumpCrossing$Reader" "tape" "[B") ∈ lw_all := lw_g (lw_at lw_m4 130 rfl) rfl
theorem q948 : (Jvm.Cond.laysFinal "PumpCrossing$RuleReader" "PumpCrossing$Reader" "size" "I") ∈ lw_all := lw_g (lw_at lw_m4 132 rfl) rfl
theorem q950 : (Jvm.Cond.lays "PumpCrossing$RuleReader" "PumpCrossing$Reader" "at" "I") ∈ lw_all := lw_g (lw_at lw_m4 134 rfl) rfl
theorem q952 : (Jvm.Cond.lays "PumpCrossing$RuleReader" "PumpCrossing$Reader" "behind" "I") ∈ lw_all := lw_g (lw_at lw_m4 136 rfl) rfl
theorem q954 : (Jvm.Cond.lays "PumpCrossing$RuleReader" "PumpCrossing$Reader" "sort" "I") ∈ lw_all := lw_g (lw_at lw_m4 138 rfl) rfl
theorem q956 : (Jvm.Cond.lays "PumpCrossing$RuleReader" "PumpCrossing$Reader" "number" "I") ∈ lw_all := lw_g (lw_at lw_m4 140 rfl) rfl
theorem q958 : (Jvm.Cond.superclass "PumpCrossing$RuleReader" "PumpCrossing$Reader") ∈ lw_all := lw_g (lw_at lw_m4 142 rfl) rfl
theorem q968 : (Jvm.Cond.selects "PumpCrossing$RuleReader" ({ cls := "PumpCrossing$Reader", name := "all", desc := "()I" } : Jvm.MethodName) ({ cls := "PumpCrossing$Reader", name := "all", desc := "()I" } : Jvm.MethodName)) ∈ lw_all := lw_g (lw_at lw_m4 152 rfl) rfl
theorem q987 : (Jvm.Cond.selects "PumpCrossing$RuleReader" ({ cls := "PumpCrossing$Reader", name := "is", desc := "(Ljava/lang/String;)Z" } : Jvm.MethodName) ({ cls := "PumpCrossing$Reader", name := "is", desc := "(Ljava/lang/String;)Z" } : Jvm.MethodName)) ∈ lw_all := lw_g (lw_at lw_m4 171 rfl) rfl
theorem q1018 : (Jvm.Cond.selects "PumpCrossing$RuleReader" ({ cls := "PumpCrossing$Reader", name := "wrong", desc := "()LPumpCrossing$Bad;" } : Jvm.MethodName) ({ cls := "PumpCrossing$Reader", name := "wrong", desc := "()LPumpCrossing$Bad;" } : Jvm.MethodName)) ∈ lw_all := lw_g (lw_at lw_m4 202 rfl) rfl
theorem q1053 : (Jvm.Cond.selects "PumpCrossing$RuleReader" ({ cls := "PumpCrossing$Reader", name := "here", desc := "(I)LPumpCrossing$Bad;" } : Jvm.MethodName) ({ cls := "PumpCrossing$Reader", name := "here", desc := "(I)LPumpCrossing$Bad;" } : Jvm.MethodName)) ∈ lw_all := lw_g (lw_at lw_m4 237 rfl) rfl
theorem q1063 : (Jvm.Cond.selects "PumpCrossing$RuleReader" ({ cls := "PumpCrossing$Reader", name := "line", desc := "()V" } : Jvm.MethodName) ({ cls := "PumpCrossing$RuleReader", name := "line", desc := "()V" } : Jvm.MethodName)) ∈ lw_all := lw_g (lw_at lw_m5 7 rfl) rfl
theorem q1064 : (Jvm.Cond.instanceMethod ({ cls := "PumpCrossing$RuleReader", name := "line", desc := "()V" } : Jvm.MethodName)) ∈ lw_all := lw_g (lw_at lw_m5 8 rfl) rfl
theorem q1065 : (Jvm.Cond.code ({ cls := "PumpCrossing$RuleReader", name := "line", desc := "()V" } : Jvm.MethodName) prog_19_method_2_code (2 : Nat) (Option.none : Option Jvm.ClassFile.FieldType)) ∈ lw_all := lw_g (lw_at lw_m5 9 rfl) rfl
theorem q1066 : (Jvm.Cond.methodLink "PumpCrossing$RuleReader" (20 : Nat) ({ cls := "java/util/ArrayList", name := "size", desc := "()I" } : Jvm.MethodName)) ∈ lw_all := lw_g (lw_at lw_m5 10 rfl) rfl
theorem q1067 : (Jvm.Cond.stringRef "PumpCrossing$RuleReader" (24 : Nat) "up") ∈ lw_tbl := lw_at lw_m5 11 rfl
theorem q1068 : (Jvm.Cond.methodLink "PumpCrossing$RuleReader" (26 : Nat) ({ cls := "PumpCrossing$RuleReader", name := "is", desc := "(Ljava/lang/String;)Z" } : Jvm.MethodName)) ∈ lw_all := lw_g (lw_at lw_m5 12 rfl) rfl
theorem q1069 : (Jvm.Cond.sameMethod "PumpCrossing$RuleReader" "PumpCrossing$Reader" "is" "(Ljava/lang/String;)Z") ∈ lw_all := lw_g (lw_at lw_m5 13 rfl) rfl
theorem q1071 : (Jvm.Cond.selects "PumpCrossing$RuleReader" ({ cls := "PumpCrossing$RuleReader", name := "is", desc := "(Ljava/lang/String;)Z" } : Jvm.MethodName) ({ cls := "PumpCrossing$Reader", name := "is", desc := "(Ljava/lang/String;)Z" } : Jvm.MethodName)) ∈ lw_all := lw_g (lw_at lw_m5 15 rfl) rfl
theorem q1072 : (Jvm.Cond.stringRef "PumpCrossing$RuleReader" (30 : Nat) "down") ∈ lw_tbl := lw_at lw_m5 16 rfl
theorem q1073 : (Jvm.Cond.stringRef "PumpCrossing$RuleReader" (32 : Nat) "to") ∈ lw_tbl := lw_at lw_m5 17 rfl
theorem q1074 : (Jvm.Cond.stringRef "PumpCrossing$RuleReader" (34 : Nat) "below") ∈ lw_tbl := lw_at lw_m5 18 rfl
theorem q1075 : (Jvm.Cond.stringRef "PumpCrossing$RuleReader" (36 : Nat) "match") ∈ lw_tbl := lw_at lw_m5 19 rfl
theorem q1076 : (Jvm.Cond.stringRef "PumpCrossing$RuleReader" (38 : Nat) "keep") ∈ lw_tbl := lw_at lw_m5 20 rfl
theorem q1077 : (Jvm.Cond.methodLink "PumpCrossing$RuleReader" (40 : Nat) ({ cls := "PumpCrossing$RuleReader", name := "here", desc := "(I)LPumpCrossing$Bad;" } : Jvm.MethodName)) ∈ lw_all := lw_g (lw_at lw_m5 21 rfl) rfl
theorem q1078 : (Jvm.Cond.sameMethod "PumpCrossing$RuleReader" "PumpCrossing$Reader" "here" "(I)LPumpCrossing$Bad;") ∈ lw_all := lw_g (lw_at lw_m5 22 rfl) rfl
theorem q1080 : (Jvm.Cond.selects "PumpCrossing$RuleReader" ({ cls := "PumpCrossing$RuleReader", name := "here", desc := "(I)LPumpCrossing$Bad;" } : Jvm.MethodName) ({ cls := "PumpCrossing$Reader", name := "here", desc := "(I)LPumpCrossing$Bad;" } : Jvm.MethodName)) ∈ lw_all := lw_g (lw_at lw_m5 24 rfl) rfl
theorem q1081 : (Jvm.Cond.methodLink "PumpCrossing$RuleReader" (44 : Nat) ({ cls := "PumpCrossing$RuleReader", name := "move", desc := "()LPumpCrossing$Move;" } : Jvm.MethodName)) ∈ lw_all := lw_g (lw_at lw_m5 25 rfl) rfl
theorem q1082 : (Jvm.Cond.privateMethod ({ cls := "PumpCrossing$RuleReader", name := "move", desc := "()LPumpCrossing$Move;" } : Jvm.MethodName)) ∈ lw_tbl := lw_at lw_m5 26 rfl
theorem q1083 : (Jvm.Cond.instanceMethod ({ cls := "PumpCrossing$RuleReader", name := "move", desc := "()LPumpCrossing$Move;" } : Jvm.MethodName)) ∈ lw_all := lw_g (lw_at lw_m5 27 rfl) rfl
theorem q1084 : (Jvm.Cond.code ({ cls := "PumpCrossing$RuleReader", name := "move", desc := "()LPumpCrossing$Move;" } : Jvm.MethodName) prog_19_method_3_code (1 : Nat) (Option.some (Jvm.ClassFile.FieldType.object "PumpCrossing$Move"))) ∈ lw_all := lw_g (lw_at lw_m5 28 rfl) rfl
theorem q1085 : (Jvm.Cond.methodLink "PumpCrossing$RuleReader" (52 : Nat) ({ cls := "PumpCrossing$RuleReader", name := "eats", desc := "(Ljava/lang/String;)Z" } : Jvm.MethodName)) ∈ lw_all := lw_g (lw_at lw_m5 29 rfl) rfl
theorem q1086 : (Jvm.Cond.sameMethod "PumpCrossing$RuleReader" "PumpCrossing$Reader" "eats" "(Ljava/lang/String;)Z") ∈ lw_all := lw_g (lw_at lw_m5 30 rfl) rfl
theorem q1087 : (Jvm.Cond.selects "PumpCrossing$RuleReader" ({ cls := "PumpCrossing$RuleReader", name := "eats", desc := "(Ljava/lang/String;)Z" } : Jvm.MethodName) ({ cls := "PumpCrossing$Reader", name := "eats", desc := "(Ljava/lang/String;)Z" } : Jvm.MethodName)) ∈ lw_all := lw_g (lw_at lw_m5 31 rfl) rfl
theorem q1088 : (Jvm.Cond.classLink "PumpCrossing$RuleReader" (66 : Nat) "PumpCrossing$Up") ∈ lw_all := lw_g (lw_at lw_m5 32 rfl) rfl
theorem q1090 : (Jvm.Cond.methodLink "PumpCrossing$RuleReader" (68 : Nat) ({ cls := "PumpCrossing$RuleReader", name := "number", desc := "(II)I" } : Jvm.MethodName)) ∈ lw_all := lw_g (lw_at lw_m5 34 rfl) rfl
theorem q1091 : (Jvm.Cond.sameMethod "PumpCrossing$RuleReader" "PumpCrossing$Reader" "number" "(II)I") ∈ lw_all := lw_g (lw_at lw_m5 35 rfl) rfl
theorem q1092 : (Jvm.Cond.selects "PumpCrossing$RuleReader" ({ cls := "PumpCrossing$RuleReader", name := "number", desc := "(II)I" } : Jvm.MethodName) ({ cls := "PumpCrossing$Reader", name := "number", desc := "(II)I" } : Jvm.MethodName)) ∈ lw_all := lw_g (lw_at lw_m5 36 rfl) rfl
theorem q1093 : (Jvm.Cond.methodLink "PumpCrossing$RuleReader" (72 : Nat) ({ cls := "PumpCrossing$Up", name := "<init>", desc := "(I)V" } : Jvm.MethodName)) ∈ lw_all := lw_g (lw_at lw_m5 37 rfl) rfl
theorem q1112 : (Jvm.Cond.classLink "PumpCrossing$RuleReader" (75 : Nat) "PumpCrossing$Down") ∈ lw_all := lw_g (lw_at lw_m5 56 rfl) rfl
theorem q1114 : (Jvm.Cond.methodLink "PumpCrossing$RuleReader" (77 : Nat) ({ cls := "PumpCrossing$Down", name := "<init>", desc := "(I)V" } : Jvm.MethodName)) ∈ lw_all := lw_g (lw_at lw_m5 58 rfl) rfl
theorem q1120 : (Jvm.Cond.classLink "PumpCrossing$RuleReader" (78 : Nat) "PumpCrossing$To") ∈ lw_all := lw_g (lw_at lw_m5 64 rfl) rfl
theorem q1122 : (Jvm.Cond.methodLink "PumpCrossing$RuleReader" (80 : Nat) ({ cls := "PumpCrossing$To", name := "<init>", desc := "(I)V" } : Jvm.MethodName)) ∈ lw_all := lw_g (lw_at lw_m5 66 rfl) rfl
theorem q1128 : (Jvm.Cond.classLink "PumpCrossing$RuleReader" (81 : Nat) "PumpCrossing$Below") ∈ lw_all := lw_g (lw_at lw_m5 72 rfl) rfl
theorem q1130 : (Jvm.Cond.methodLink "PumpCrossing$RuleReader" (83 : Nat) ({ cls := "PumpCrossing$Below", name := "<init>", desc := "(I)V" } : Jvm.MethodName)) ∈ lw_all := lw_g (lw_at lw_m5 74 rfl) rfl
theorem q1136 : (Jvm.Cond.classLink "PumpCrossing$RuleReader" (84 : Nat) "PumpCrossing$Keep") ∈ lw_all := lw_g (lw_at lw_m5 80 rfl) rfl
theorem q1138 : (Jvm.Cond.methodLink "PumpCrossing$RuleReader" (86 : Nat) ({ cls := "PumpCrossing$Keep", name := "<init>", desc := "()V" } : Jvm.MethodName)) ∈ lw_all := lw_g (lw_at lw_m5 82 rfl) rfl
theorem q1144 : (Jvm.Cond.methodLink "PumpCrossing$RuleReader" (87 : Nat) ({ cls := "PumpCrossing$RuleReader", name := "wrong", desc := "()LPumpCrossing$Bad;" } : Jvm.MethodName)) ∈ lw_all := lw_g (lw_at lw_m5 88 rfl) rfl
theorem q1145 : (Jvm.Cond.sameMethod "PumpCrossing$RuleReader" "PumpCrossing$Reader" "wrong" "()LPumpCrossing$Bad;") ∈ lw_all := lw_g (lw_at lw_m5 89 rfl) rfl
theorem q1146 : (Jvm.Cond.selects "PumpCrossing$RuleReader" ({ cls := "PumpCrossing$RuleReader", name := "wrong", desc := "()LPumpCrossing$Bad;" } : Jvm.MethodName) ({ cls := "PumpCrossing$Reader", name := "wrong", desc := "()LPumpCrossing$Bad;" } : Jvm.MethodName)) ∈ lw_all := lw_g (lw_at lw_m5 90 rfl) rfl
theorem q1147 : (Jvm.Cond.classLink "PumpCrossing$RuleReader" (48 : Nat) "PumpCrossing$Rule") ∈ lw_all := lw_g (lw_at lw_m5 91 rfl) rfl
theorem q1149 : (Jvm.Cond.stringRef "PumpCrossing$RuleReader" (50 : Nat) "when") ∈ lw_tbl := lw_at lw_m5 93 rfl
theorem q1150 : (Jvm.Cond.methodLink "PumpCrossing$RuleReader" (55 : Nat) ({ cls := "PumpCrossing$RuleReader", name := "any", desc := "()LPumpCrossing$Term;" } : Jvm.MethodName)) ∈ lw_all := lw_g (lw_at lw_m5 94 rfl) rfl
theorem q1151 : (Jvm.Cond.privateMethod ({ cls := "PumpCrossing$RuleReader", name := "any", desc := "()LPumpCrossing$Term;" } : Jvm.MethodName)) ∈ lw_tbl := lw_at lw_m5 95 rfl
theorem q1152 : (Jvm.Cond.instanceMethod ({ cls := "PumpCrossing$RuleReader", name := "any", desc := "()LPumpCrossing$Term;" } : Jvm.MethodName)) ∈ lw_all := lw_g (lw_at lw_m5 96 rfl) rfl
theorem q1153 : (Jvm.Cond.code ({ cls := "PumpCrossing$RuleReader", name := "any", desc := "()LPumpCrossing$Term;" } : Jvm.MethodName) prog_19_method_4_code (2 : Nat) (Option.some (Jvm.ClassFile.FieldType.object "PumpCrossing$Term"))) ∈ lw_all := lw_g (lw_at lw_m5 97 rfl) rfl
theorem q1154 : (Jvm.Cond.methodLink "PumpCrossing$RuleReader" (91 : Nat) ({ cls := "PumpCrossing$RuleReader", name := "both", desc := "()LPumpCrossing$Term;" } : Jvm.MethodName)) ∈ lw_all := lw_g (lw_at lw_m5 98 rfl) rfl
theorem q1155 : (Jvm.Cond.privateMethod ({ cls := "PumpCrossing$RuleReader", name := "both", desc := "()LPumpCrossing$Term;" } : Jvm.MethodName)) ∈ lw_tbl := lw_at lw_m5 99 rfl
theorem q1156 : (Jvm.Cond.instanceMethod ({ cls := "PumpCrossing$RuleReader", name := "both", desc := "()LPumpCrossing$Term;" } : Jvm.MethodName)) ∈ lw_all := lw_g (lw_at lw_m5 100 rfl) rfl
theorem q1157 : (Jvm.Cond.code ({ cls := "PumpCrossing$RuleReader", name := "both", desc := "()LPumpCrossing$Term;" } : Jvm.MethodName) prog_19_method_5_code (2 : Nat) (Option.some (Jvm.ClassFile.FieldType.object "PumpCrossing$Term"))) ∈ lw_all := lw_g (lw_at lw_m5 101 rfl) rfl
theorem q1158 : (Jvm.Cond.methodLink "PumpCrossing$RuleReader" (101 : Nat) ({ cls := "PumpCrossing$RuleReader", name := "one", desc := "()LPumpCrossing$Term;" } : Jvm.MethodName)) ∈ lw_all := lw_g (lw_at lw_m5 102 rfl) rfl
theorem q1159 : (Jvm.Cond.privateMethod ({ cls := "PumpCrossing$RuleReader", name := "one", desc := "()LPumpCrossing$Term;" } : Jvm.MethodName)) ∈ lw_tbl := lw_at lw_m5 103 rfl
theorem q1160 : (Jvm.Cond.instanceMethod ({ cls := "PumpCrossing$RuleReader", name := "one", desc := "()LPumpCrossing$Term;" } : Jvm.MethodName)) ∈ lw_all := lw_g (lw_at lw_m5 104 rfl) rfl
theorem q1161 : (Jvm.Cond.code ({ cls := "PumpCrossing$RuleReader", name := "one", desc := "()LPumpCrossing$Term;" } : Jvm.MethodName) prog_19_method_6_code (3 : Nat) (Option.some (Jvm.ClassFile.FieldType.object "PumpCrossing$Term"))) ∈ lw_all := lw_g (lw_at lw_m5 105 rfl) rfl
theorem q1162 : (Jvm.Cond.stringRef "PumpCrossing$RuleReader" (106 : Nat) "not") ∈ lw_tbl := lw_at lw_m5 106 rfl
theorem q1163 : (Jvm.Cond.methodLink "PumpCrossing$RuleReader" (112 : Nat) ({ cls := "PumpCrossing$RuleReader", name := "next", desc := "()V" } : Jvm.MethodName)) ∈ lw_all := lw_g (lw_at lw_m5 107 rfl) rfl
theorem q1164 : (Jvm.Cond.sameMethod "PumpCrossing$RuleReader" "PumpCrossing$Reader" "next" "()V") ∈ lw_all := lw_g (lw_at lw_m5 108 rfl) rfl
theorem q1166 : (Jvm.Cond.selects "PumpCrossing$RuleReader" ({ cls := "PumpCrossing$RuleReader", name := "next", desc := "()V" } : Jvm.MethodName) ({ cls := "PumpCrossing$Reader", name := "next", desc := "()V" } : Jvm.MethodName)) ∈ lw_all := lw_g (lw_at lw_m5 110 rfl) rfl
theorem q1167 : (Jvm.Cond.classLink "PumpCrossing$RuleReader" (115 : Nat) "PumpCrossing$Not") ∈ lw_all := lw_g (lw_at lw_m5 111 rfl) rfl
theorem q1169 : (Jvm.Cond.methodLink "PumpCrossing$RuleReader" (117 : Nat) ({ cls := "PumpCrossing$Not", name := "<init>", desc := "(LPumpCrossing$Term;)V" } : Jvm.MethodName)) ∈ lw_all := lw_g (lw_at lw_m5 113 rfl) rfl
theorem q1177 : (Jvm.Cond.methodLink "PumpCrossing$RuleReader" (120 : Nat) ({ cls := "PumpCrossing$RuleReader", name := "sum", desc := "()LPumpCrossing$Term;" } : Jvm.MethodName)) ∈ lw_all := lw_g (lw_at lw_m5 121 rfl) rfl
theorem q1178 : (Jvm.Cond.privateMethod ({ cls := "PumpCrossing$RuleReader", name := "sum", desc := "()LPumpCrossing$Term;" } : Jvm.MethodName)) ∈ lw_tbl := lw_at lw_m5 122 rfl
theorem q1179 : (Jvm.Cond.instanceMethod ({ cls := "PumpCrossing$RuleReader", name := "sum", desc := "()LPumpCrossing$Term;" } : Jvm.MethodName)) ∈ lw_all := lw_g (lw_at lw_m5 123 rfl) rfl
theorem q1180 : (Jvm.Cond.code ({ cls := "PumpCrossing$RuleReader", name := "sum", desc := "()LPumpCrossing$Term;" } : Jvm.MethodName) prog_19_method_7_code (3 : Nat) (Option.some (Jvm.ClassFile.FieldType.object "PumpCrossing$Term"))) ∈ lw_all := lw_g (lw_at lw_m5 124 rfl) rfl
theorem q1181 : (Jvm.Cond.methodLink "PumpCrossing$RuleReader" (127 : Nat) ({ cls := "PumpCrossing$RuleReader", name := "unit", desc := "()LPumpCrossing$Term;" } : Jvm.MethodName)) ∈ lw_all := lw_g (lw_at lw_m5 125 rfl) rfl
theorem q1182 : (Jvm.Cond.privateMethod ({ cls := "PumpCrossing$RuleReader", name := "unit", desc := "()LPumpCrossing$Term;" } : Jvm.MethodName)) ∈ lw_tbl := lw_at lw_m5 126 rfl
theorem q1183 : (Jvm.Cond.instanceMethod ({ cls := "PumpCrossing$RuleReader", name := "unit", desc := "()LPumpCrossing$Term;" } : Jvm.MethodName)) ∈ lw_all := lw_g (lw_at lw_m5 127 rfl) rfl
theorem q1184 : (Jvm.Cond.code ({ cls := "PumpCrossing$RuleReader", name := "unit", desc := "()LPumpCrossing$Term;" } : Jvm.MethodName) prog_19_method_8_code (2 : Nat) (Option.some (Jvm.ClassFile.FieldType.object "PumpCrossing$Term"))) ∈ lw_all := lw_g (lw_at lw_m5 128 rfl) rfl
theorem q1185 : (Jvm.Cond.methodLink "PumpCrossing$RuleReader" (130 : Nat) ({ cls := "PumpCrossing$RuleReader", name := "isNumber", desc := "()Z" } : Jvm.MethodName)) ∈ lw_all := lw_g (lw_at lw_m5 129 rfl) rfl
theorem q1186 : (Jvm.Cond.sameMethod "PumpCrossing$RuleReader" "PumpCrossing$Reader" "isNumber" "()Z") ∈ lw_all := lw_g (lw_at lw_m5 130 rfl) rfl
theorem q1188 : (Jvm.Cond.selects "PumpCrossing$RuleReader" ({ cls := "PumpCrossing$RuleReader", name := "isNumber", desc := "()Z" } : Jvm.MethodName) ({ cls := "PumpCrossing$Reader", name := "isNumber", desc := "()Z" } : Jvm.MethodName)) ∈ lw_all := lw_g (lw_at lw_m5 132 rfl) rfl
theorem q1191 : (Jvm.Cond.classLink "PumpCrossing$RuleReader" (134 : Nat) "PumpCrossing$Number") ∈ lw_all := lw_g (lw_at lw_m5 135 rfl) rfl
theorem q1193 : (Jvm.Cond.methodLink "PumpCrossing$RuleReader" (136 : Nat) ({ cls := "PumpCrossing$Number", name := "<init>", desc := "(I)V" } : Jvm.MethodName)) ∈ lw_all := lw_g (lw_at lw_m5 137 rfl) rfl
theorem q1201 : (Jvm.Cond.stringRef "PumpCrossing$RuleReader" (137 : Nat) "own") ∈ lw_tbl := lw_at lw_m5 145 rfl
theorem q1202 : (Jvm.Cond.stringRef "PumpCrossing$RuleReader" (139 : Nat) "least") ∈ lw_tbl := lw_at lw_m5 146 rfl
theorem q1203 : (Jvm.Cond.stringRef "PumpCrossing$RuleReader" (141 : Nat) "most") ∈ lw_tbl := lw_at lw_m5 147 rfl
theorem q1204 : (Jvm.Cond.stringRef "PumpCrossing$RuleReader" (143 : Nat) "cost") ∈ lw_tbl := lw_at lw_m5 148 rfl
theorem q1205 : (Jvm.Cond.stringRef "PumpCrossing$RuleReader" (145 : Nat) "hour") ∈ lw_tbl := lw_at lw_m5 149 rfl
theorem q1206 : (Jvm.Cond.stringRef "PumpCrossing$RuleReader" (147 : Nat) "day") ∈ lw_tbl := lw_at lw_m5 150 rfl
theorem q1207 : (Jvm.Cond.stringRef "PumpCrossing$RuleReader" (149 : Nat) "since") ∈ lw_tbl := lw_at lw_m5 151 rfl
theorem q1208 : (Jvm.Cond.stringRef "PumpCrossing$RuleReader" (151 : Nat) "rose") ∈ lw_tbl := lw_at lw_m5 152 rfl
theorem q1209 : (Jvm.Cond.stringRef "PumpCrossing$RuleReader" (153 : Nat) "fell") ∈ lw_tbl := lw_at lw_m5 153 rfl
theorem q1210 : (Jvm.Cond.classLink "PumpCrossing$RuleReader" (155 : Nat) "PumpCrossing$Fact") ∈ lw_all := lw_g (lw_at lw_m5 154 rfl) rfl
theorem q1212 : (Jvm.Cond.methodLink "PumpCrossing$RuleReader" (157 : Nat) ({ cls := "PumpCrossing$Fact", name := "<init>", desc := "(I)V" } : Jvm.MethodName)) ∈ lw_all := lw_g (lw_at lw_m5 156 rfl) rfl
theorem q1220 : (Jvm.Cond.methodLink "PumpCrossing$RuleReader" (123 : Nat) ({ cls := "PumpCrossing$RuleReader", name := "isSign", desc := "(C)Z" } : Jvm.MethodName)) ∈ lw_all := lw_g (lw_at lw_m5 164 rfl) rfl
theorem q1221 : (Jvm.Cond.sameMethod "PumpCrossing$RuleReader" "PumpCrossing$Reader" "isSign" "(C)Z") ∈ lw_all := lw_g (lw_at lw_m5 165 rfl) rfl
theorem q1223 : (Jvm.Cond.selects "PumpCrossing$RuleReader" ({ cls := "PumpCrossing$RuleReader", name := "isSign", desc := "(C)Z" } : Jvm.MethodName) ({ cls := "PumpCrossing$Reader", name := "isSign", desc := "(C)Z" } : Jvm.MethodName)) ∈ lw_all := lw_g (lw_at lw_m5 167 rfl) rfl
theorem q1226 : (Jvm.Cond.classLink "PumpCrossing$RuleReader" (96 : Nat) "PumpCrossing$Two") ∈ lw_all := lw_g (lw_at lw_m5 170 rfl) rfl
theorem q1228 : (Jvm.Cond.methodLink "PumpCrossing$RuleReader" (98 : Nat) ({ cls := "PumpCrossing$Two", name := "<init>", desc := "(CLPumpCrossing$Term;LPumpCrossing$Term;)V" } : Jvm.MethodName)) ∈ lw_all := lw_g (lw_at lw_m5 172 rfl) rfl
theorem q1242 : (Jvm.Cond.stringRef "PumpCrossing$RuleReader" (104 : Nat) "and") ∈ lw_tbl := lw_at lw_m5 186 rfl
theorem q1243 : (Jvm.Cond.stringRef "PumpCrossing$RuleReader" (94 : Nat) "or") ∈ lw_tbl := lw_at lw_m5 187 rfl
theorem q1244 : (Jvm.Cond.methodLink "PumpCrossing$RuleReader" (59 : Nat) ({ cls := "PumpCrossing$Rule", name := "<init>", desc := "(LPumpCrossing$Move;LPumpCrossing$Term;)V" } : Jvm.MethodName)) ∈ lw_all := lw_g (lw_at lw_m5 188 rfl) rfl
theorem q1256 : (Jvm.Cond.methodLink "PumpCrossing$RuleReader" (62 : Nat) ({ cls := "java/util/ArrayList", name := "add", desc := "(Ljava/lang/Object;)Z" } : Jvm.MethodName)) ∈ lw_all := lw_g (lw_at lw_m5 200 rfl) rfl
theorem q2405 : (Jvm.Cond.selects "PumpCrossing$RuleReader" ({ cls := "PumpCrossing$Reader", name := "isSign", desc := "(C)Z" } : Jvm.MethodName) ({ cls := "PumpCrossing$Reader", name := "isSign", desc := "(C)Z" } : Jvm.MethodName)) ∈ lw_all := lw_g (lw_at lw_m10 149 rfl) rfl
theorem q2425 : (Jvm.Cond.castable "PumpCrossing$RuleReader" "java/lang/Object") ∈ lw_tbl := lw_at lw_m10 169 rfl
theorem in_X13 : ∀ w ∈ wsX130, w ∈ lw_all := lw_in wsX130 [946, 948, 950, 952, 954, 956, 942, 944] (by decide +kernel) (by decide +kernel)
/-! PumpCrossing$Bad -/
set_option maxRecDepth 100000
def RX14 : String := "PumpCrossing$Bad"
def TX14 : u_T := fun k => match k with
  | 0 => ("java/lang/Throwable", "cause", "Ljava/lang/Throwable;", false)
  | 1 => ("java/lang/Throwable", "stackTrace", "[Ljava/lang/StackTraceElement;", false)
  | 2 => ("java/lang/Throwable", "suppressedExceptions", "Ljava/util/List;", false)
  | 3 => ("java/lang/Throwable", "detailMessage", "Ljava/lang/String;", false)
  | 4 => ("java/lang/Throwable", "backtrace", "Ljava/lang/Object;", false)
  | 5 => ("java/lang/Throwable", "depth", "I", false)
  | 6 => ("PumpCrossing$Bad", "kind", "I", true)
  | _ => ("PumpCrossing$Bad", "place", "I", true)
def tyX14 : Nat → FieldType := fun k => match k with
  | 0 => .object "java/lang/Throwable"
  | 1 => .array (.object "java/lang/StackTraceElement")
  | 2 => .object "java/util/List"
  | 3 => .object "java/lang/String"
  | 4 => .object "java/lang/Object"
  | 5 => .int
  | 6 => .int
  | _ => .int
abbrev wsX140 : List Cond := u_ws RX14 TX14 8
theorem nmX14 : ∀ a, a < 8 → ∀ b, b < 8 → a ≠ b → (TX14 a).2.1 ≠ (TX14 b).2.1 := by decide +kernel
theorem tyX14_ok : ∀ k, k < 8 → parseFieldDescriptor (TX14 k).2.2.1 = some (tyX14 k) := by decide +kernel
abbrev cX14_init : ByteArray := prog_2_method_1_code
def yX14_init : MethodName := ⟨RX14, "<init>", "(II)V"⟩
def dkwX14_init_0 : List UInt8 := [42, 1, 1, 3, 3, 183, 0, 1, 42, 27, 181, 0, 7, 42, 28, 181, 0, 13, 177]
abbrev dktX14_init_0 : List UInt8 := dkwX14_init_0 ++ []
theorem dksX14_init_0 : cX14_init.data.toList.drop 0 = dktX14_init_0 := by decide +kernel
theorem dX14_init_0 : decode cX14_init 0 = .ok (.aload_n 0, 1) := dk_42 (dk_at dksX14_init_0 0 rfl rfl)
theorem dX14_init_1 : decode cX14_init 1 = .ok (.aconst_null, 1) := dk_1 (dk_at dksX14_init_0 1 rfl rfl)
theorem dX14_init_2 : decode cX14_init 2 = .ok (.aconst_null, 1) := dk_1 (dk_at dksX14_init_0 2 rfl rfl)
theorem dX14_init_3 : decode cX14_init 3 = .ok (.iconst 0, 1) := dk_3 (dk_at dksX14_init_0 3 rfl rfl)
theorem dX14_init_4 : decode cX14_init 4 = .ok (.iconst 0, 1) := dk_3 (dk_at dksX14_init_0 4 rfl rfl)
theorem dX14_init_5 : decode cX14_init 5 = .ok (.invokespecial 1, 3) := dk_183 0 1 (dk_at dksX14_init_0 5 rfl rfl)
theorem dX14_init_8 : decode cX14_init 8 = .ok (.aload_n 0, 1) := dk_42 (dk_at dksX14_init_0 8 rfl rfl)
theorem dX14_init_9 : decode cX14_init 9 = .ok (.iload_n 1, 1) := dk_27 (dk_at dksX14_init_0 9 rfl rfl)
theorem dX14_init_10 : decode cX14_init 10 = .ok (.putfield 7, 3) := dk_181 0 7 (dk_at dksX14_init_0 10 rfl rfl)
theorem dX14_init_13 : decode cX14_init 13 = .ok (.aload_n 0, 1) := dk_42 (dk_at dksX14_init_0 13 rfl rfl)
theorem dX14_init_14 : decode cX14_init 14 = .ok (.iload_n 2, 1) := dk_28 (dk_at dksX14_init_0 14 rfl rfl)
theorem dX14_init_15 : decode cX14_init 15 = .ok (.putfield 13, 3) := dk_181 0 13 (dk_at dksX14_init_0 15 rfl rfl)
theorem dX14_init_18 : decode cX14_init 18 = .ok (.return_, 1) := dk_177 (dk_at dksX14_init_0 18 rfl rfl)
theorem q129 : (Jvm.Cond.initialized "PumpCrossing$Bad") ∈ lw_all := lw_g (lw_at lw_m1 33 rfl) rfl
theorem q531 : (Jvm.Cond.selects "PumpCrossing$Bad" ({ cls := "java/lang/Throwable", name := "fillInStackTrace", desc := "()Ljava/lang/Throwable;" } : Jvm.MethodName) ({ cls := "java/lang/Throwable", name := "fillInStackTrace", desc := "()Ljava/lang/Throwable;" } : Jvm.MethodName)) ∈ lw_all := lw_g (lw_at lw_m2 195 rfl) rfl
theorem q678 : (Jvm.Cond.selects "PumpCrossing$Bad" ({ cls := "java/lang/Object", name := "getClass", desc := "()Ljava/lang/Class;" } : Jvm.MethodName) ({ cls := "java/lang/Object", name := "getClass", desc := "()Ljava/lang/Class;" } : Jvm.MethodName)) ∈ lw_all := lw_g (lw_at lw_m3 102 rfl) rfl
theorem q1021 : (Jvm.Cond.instantiable "PumpCrossing$Bad" (8 : Nat)) ∈ lw_all := lw_g (lw_at lw_m4 205 rfl) rfl
theorem q1022 : (Jvm.Cond.castable "PumpCrossing$Bad" "PumpCrossing$Bad") ∈ lw_tbl := lw_at lw_m4 206 rfl
theorem q1023 : (Jvm.Cond.selects "PumpCrossing$Bad" ({ cls := "java/lang/Throwable", name := "fillInStackTrace", desc := "(I)Ljava/lang/Throwable;" } : Jvm.MethodName) ({ cls := "java/lang/Throwable", name := "fillInStackTrace", desc := "(I)Ljava/lang/Throwable;" } : Jvm.MethodName)) ∈ lw_all := lw_g (lw_at lw_m4 207 rfl) rfl
theorem q1024 : (Jvm.Cond.lays "PumpCrossing$Bad" "java/lang/Throwable" "cause" "Ljava/lang/Throwable;") ∈ lw_all := lw_g (lw_at lw_m4 208 rfl) rfl
theorem q1025 : (Jvm.Cond.lays "PumpCrossing$Bad" "java/lang/Throwable" "stackTrace" "[Ljava/lang/StackTraceElement;") ∈ lw_all := lw_g (lw_at lw_m4 209 rfl) rfl
theorem q1026 : (Jvm.Cond.lays "PumpCrossing$Bad" "java/lang/Throwable" "suppressedExceptions" "Ljava/util/List;") ∈ lw_all := lw_g (lw_at lw_m4 210 rfl) rfl
theorem q1027 : (Jvm.Cond.lays "PumpCrossing$Bad" "java/lang/Throwable" "detailMessage" "Ljava/lang/String;") ∈ lw_all := lw_g (lw_at lw_m4 211 rfl) rfl
theorem q1028 : (Jvm.Cond.lays "PumpCrossing$Bad" "java/lang/Throwable" "backtrace" "Ljava/lang/Object;") ∈ lw_all := lw_g (lw_at lw_m4 212 rfl) rfl
theorem q1030 : (Jvm.Cond.instanceMethod ({ cls := "PumpCrossing$Bad", name := "<init>", desc := "(II)V" } : Jvm.MethodName)) ∈ lw_all := lw_g (lw_at lw_m4 214 rfl) rfl
theorem q1031 : (Jvm.Cond.code ({ cls := "PumpCrossing$Bad", name := "<init>", desc := "(II)V" } : Jvm.MethodName) prog_2_method_1_code (3 : Nat) (Option.none : Option Jvm.ClassFile.FieldType)) ∈ lw_all := lw_g (lw_at lw_m4 215 rfl) rfl
theorem q1032 : (Jvm.Cond.methodLink "PumpCrossing$Bad" (1 : Nat) ({ cls := "java/lang/Exception", name := "<init>", desc := "(Ljava/lang/String;Ljava/lang/Throwable;ZZ)V" } : Jvm.MethodName)) ∈ lw_all := lw_g (lw_at lw_m4 216 rfl) rfl
theorem q1038 : (Jvm.Cond.fieldLink "PumpCrossing$Bad" (7 : Nat) "PumpCrossing$Bad" "kind" "I") ∈ lw_all := lw_g (lw_at lw_m4 222 rfl) rfl
theorem q1040 : (Jvm.Cond.fieldLink "PumpCrossing$Bad" (13 : Nat) "PumpCrossing$Bad" "place" "I") ∈ lw_all := lw_g (lw_at lw_m4 224 rfl) rfl
theorem q1042 : (Jvm.Cond.laysFinal "PumpCrossing$Bad" "PumpCrossing$Bad" "kind" "I") ∈ lw_all := lw_g (lw_at lw_m4 226 rfl) rfl
theorem q1043 : (Jvm.Cond.soleField "PumpCrossing$Bad" "kind") ∈ lw_all := lw_g (lw_at lw_m4 227 rfl) rfl
theorem q1044 : (Jvm.Cond.laysFinal "PumpCrossing$Bad" "PumpCrossing$Bad" "place" "I") ∈ lw_all := lw_g (lw_at lw_m4 228 rfl) rfl
theorem q1045 : (Jvm.Cond.soleField "PumpCrossing$Bad" "place") ∈ lw_all := lw_g (lw_at lw_m4 229 rfl) rfl
theorem q1046 : (Jvm.Cond.lays "PumpCrossing$Bad" "java/lang/Throwable" "depth" "I") ∈ lw_all := lw_g (lw_at lw_m4 230 rfl) rfl
theorem q1047 : (Jvm.Cond.superclass "PumpCrossing$Bad" "java/lang/Exception") ∈ lw_all := lw_g (lw_at lw_m4 231 rfl) rfl
theorem q2426 : (Jvm.Cond.castable "PumpCrossing$Bad" "java/lang/Object") ∈ lw_tbl := lw_at lw_m10 170 rfl
theorem in_X14 : ∀ w ∈ wsX140, w ∈ lw_all := lw_in wsX140 [1024, 1025, 1026, 1027, 1028, 1046, 1042, 1044] (by decide +kernel) (by decide +kernel)
/-! PumpCrossing$Move -/
set_option maxRecDepth 100000
def RX15 : String := "PumpCrossing$Move"
abbrev cX15_init : ByteArray := prog_13_method_1_code
def yX15_init : MethodName := ⟨RX15, "<init>", "(I)V"⟩
def dkwX15_init_0 : List UInt8 := [42, 183, 0, 1, 42, 27, 181, 0, 7, 177]
abbrev dktX15_init_0 : List UInt8 := dkwX15_init_0 ++ []
theorem dksX15_init_0 : cX15_init.data.toList.drop 0 = dktX15_init_0 := by decide +kernel
theorem dX15_init_0 : decode cX15_init 0 = .ok (.aload_n 0, 1) := dk_42 (dk_at dksX15_init_0 0 rfl rfl)
theorem dX15_init_1 : decode cX15_init 1 = .ok (.invokespecial 1, 3) := dk_183 0 1 (dk_at dksX15_init_0 1 rfl rfl)
theorem dX15_init_4 : decode cX15_init 4 = .ok (.aload_n 0, 1) := dk_42 (dk_at dksX15_init_0 4 rfl rfl)
theorem dX15_init_5 : decode cX15_init 5 = .ok (.iload_n 1, 1) := dk_27 (dk_at dksX15_init_0 5 rfl rfl)
theorem dX15_init_6 : decode cX15_init 6 = .ok (.putfield 7, 3) := dk_181 0 7 (dk_at dksX15_init_0 6 rfl rfl)
theorem dX15_init_9 : decode cX15_init 9 = .ok (.return_, 1) := dk_177 (dk_at dksX15_init_0 9 rfl rfl)
theorem q130 : (Jvm.Cond.initialized "PumpCrossing$Move") ∈ lw_all := lw_g (lw_at lw_m1 34 rfl) rfl
theorem q1097 : (Jvm.Cond.instanceMethod ({ cls := "PumpCrossing$Move", name := "<init>", desc := "(I)V" } : Jvm.MethodName)) ∈ lw_all := lw_g (lw_at lw_m5 41 rfl) rfl
theorem q1098 : (Jvm.Cond.code ({ cls := "PumpCrossing$Move", name := "<init>", desc := "(I)V" } : Jvm.MethodName) prog_13_method_1_code (2 : Nat) (Option.none : Option Jvm.ClassFile.FieldType)) ∈ lw_all := lw_g (lw_at lw_m5 42 rfl) rfl
theorem q1099 : (Jvm.Cond.methodLink "PumpCrossing$Move" (1 : Nat) ({ cls := "java/lang/Object", name := "<init>", desc := "()V" } : Jvm.MethodName)) ∈ lw_all := lw_g (lw_at lw_m5 43 rfl) rfl
theorem q1100 : (Jvm.Cond.fieldLink "PumpCrossing$Move" (7 : Nat) "PumpCrossing$Move" "n" "I") ∈ lw_all := lw_g (lw_at lw_m5 44 rfl) rfl
theorem q1110 : (Jvm.Cond.soleField "PumpCrossing$Move" "n") ∈ lw_all := lw_g (lw_at lw_m5 54 rfl) rfl
theorem q1385 : (Jvm.Cond.declares ({ cls := "PumpCrossing$Move", name := "to", desc := "([I)I" } : Jvm.MethodName)) ∈ lw_tbl := lw_at lw_m6 89 rfl
theorem q1386 : (Jvm.Cond.sameMethod "PumpCrossing$Move" "PumpCrossing$Move" "to" "([I)I") ∈ lw_all := lw_g (lw_at lw_m6 90 rfl) rfl
/-! PumpCrossing$Up -/
set_option maxRecDepth 100000
def RX16 : String := "PumpCrossing$Up"
def TX16 : u_T := fun k => match k with
  | _ => ("PumpCrossing$Move", "n", "I", true)
def tyX16 : Nat → FieldType := fun k => match k with
  | _ => .int
abbrev wsX160 : List Cond := u_ws RX16 TX16 1
theorem nmX16 : ∀ a, a < 1 → ∀ b, b < 1 → a ≠ b → (TX16 a).2.1 ≠ (TX16 b).2.1 := by decide +kernel
theorem tyX16_ok : ∀ k, k < 1 → parseFieldDescriptor (TX16 k).2.2.1 = some (tyX16 k) := by decide +kernel
abbrev cX16_init : ByteArray := prog_27_method_1_code
def yX16_init : MethodName := ⟨RX16, "<init>", "(I)V"⟩
def dkwX16_init_0 : List UInt8 := [42, 27, 183, 0, 3, 177]
abbrev dktX16_init_0 : List UInt8 := dkwX16_init_0 ++ []
theorem dksX16_init_0 : cX16_init.data.toList.drop 0 = dktX16_init_0 := by decide +kernel
theorem dX16_init_0 : decode cX16_init 0 = .ok (.aload_n 0, 1) := dk_42 (dk_at dksX16_init_0 0 rfl rfl)
theorem dX16_init_1 : decode cX16_init 1 = .ok (.iload_n 1, 1) := dk_27 (dk_at dksX16_init_0 1 rfl rfl)
theorem dX16_init_2 : decode cX16_init 2 = .ok (.invokespecial 3, 3) := dk_183 0 3 (dk_at dksX16_init_0 2 rfl rfl)
theorem dX16_init_5 : decode cX16_init 5 = .ok (.return_, 1) := dk_177 (dk_at dksX16_init_0 5 rfl rfl)
abbrev cX16_to : ByteArray := prog_27_method_2_code
def yX16_to : MethodName := ⟨RX16, "to", "([I)I"⟩
def dkwX16_to_0 : List UInt8 := [43, 3, 46, 42, 180, 0, 9, 96, 172]
abbrev dktX16_to_0 : List UInt8 := dkwX16_to_0 ++ []
theorem dksX16_to_0 : cX16_to.data.toList.drop 0 = dktX16_to_0 := by decide +kernel
theorem dX16_to_0 : decode cX16_to 0 = .ok (.aload_n 1, 1) := dk_43 (dk_at dksX16_to_0 0 rfl rfl)
theorem dX16_to_1 : decode cX16_to 1 = .ok (.iconst 0, 1) := dk_3 (dk_at dksX16_to_0 1 rfl rfl)
theorem dX16_to_2 : decode cX16_to 2 = .ok (.iaload, 1) := dk_46 (dk_at dksX16_to_0 2 rfl rfl)
theorem dX16_to_3 : decode cX16_to 3 = .ok (.aload_n 0, 1) := dk_42 (dk_at dksX16_to_0 3 rfl rfl)
theorem dX16_to_4 : decode cX16_to 4 = .ok (.getfield 9, 3) := dk_180 0 9 (dk_at dksX16_to_0 4 rfl rfl)
theorem dX16_to_7 : decode cX16_to 7 = .ok (.iadd, 1) := dk_96 (dk_at dksX16_to_0 7 rfl rfl)
theorem dX16_to_8 : decode cX16_to 8 = .ok (.ireturn, 1) := dk_172 (dk_at dksX16_to_0 8 rfl rfl)
theorem q131 : (Jvm.Cond.initialized "PumpCrossing$Up") ∈ lw_all := lw_g (lw_at lw_m1 35 rfl) rfl
theorem q699 : (Jvm.Cond.selects "PumpCrossing$Up" ({ cls := "java/lang/Object", name := "getClass", desc := "()Ljava/lang/Class;" } : Jvm.MethodName) ({ cls := "java/lang/Object", name := "getClass", desc := "()Ljava/lang/Class;" } : Jvm.MethodName)) ∈ lw_all := lw_g (lw_at lw_m3 123 rfl) rfl
theorem q1089 : (Jvm.Cond.instantiable "PumpCrossing$Up" (1 : Nat)) ∈ lw_all := lw_g (lw_at lw_m5 33 rfl) rfl
theorem q1094 : (Jvm.Cond.instanceMethod ({ cls := "PumpCrossing$Up", name := "<init>", desc := "(I)V" } : Jvm.MethodName)) ∈ lw_all := lw_g (lw_at lw_m5 38 rfl) rfl
theorem q1095 : (Jvm.Cond.code ({ cls := "PumpCrossing$Up", name := "<init>", desc := "(I)V" } : Jvm.MethodName) prog_27_method_1_code (2 : Nat) (Option.none : Option Jvm.ClassFile.FieldType)) ∈ lw_all := lw_g (lw_at lw_m5 39 rfl) rfl
theorem q1096 : (Jvm.Cond.methodLink "PumpCrossing$Up" (3 : Nat) ({ cls := "PumpCrossing$Move", name := "<init>", desc := "(I)V" } : Jvm.MethodName)) ∈ lw_all := lw_g (lw_at lw_m5 40 rfl) rfl
theorem q1107 : (Jvm.Cond.fieldLink "PumpCrossing$Up" (9 : Nat) "PumpCrossing$Up" "n" "I") ∈ lw_all := lw_g (lw_at lw_m5 51 rfl) rfl
theorem q1108 : (Jvm.Cond.sameField "PumpCrossing$Up" "PumpCrossing$Move" "n" "I") ∈ lw_all := lw_g (lw_at lw_m5 52 rfl) rfl
theorem q1109 : (Jvm.Cond.laysFinal "PumpCrossing$Up" "PumpCrossing$Move" "n" "I") ∈ lw_all := lw_g (lw_at lw_m5 53 rfl) rfl
theorem q1111 : (Jvm.Cond.superclass "PumpCrossing$Up" "PumpCrossing$Move") ∈ lw_all := lw_g (lw_at lw_m5 55 rfl) rfl
theorem q1399 : (Jvm.Cond.selects "PumpCrossing$Up" ({ cls := "PumpCrossing$Move", name := "to", desc := "([I)I" } : Jvm.MethodName) ({ cls := "PumpCrossing$Up", name := "to", desc := "([I)I" } : Jvm.MethodName)) ∈ lw_all := lw_g (lw_at lw_m6 103 rfl) rfl
theorem q1400 : (Jvm.Cond.instanceMethod ({ cls := "PumpCrossing$Up", name := "to", desc := "([I)I" } : Jvm.MethodName)) ∈ lw_all := lw_g (lw_at lw_m6 104 rfl) rfl
theorem q1401 : (Jvm.Cond.code ({ cls := "PumpCrossing$Up", name := "to", desc := "([I)I" } : Jvm.MethodName) prog_27_method_2_code (2 : Nat) (Option.some Jvm.ClassFile.FieldType.int)) ∈ lw_all := lw_g (lw_at lw_m6 105 rfl) rfl
theorem q2427 : (Jvm.Cond.castable "PumpCrossing$Up" "java/lang/Object") ∈ lw_tbl := lw_at lw_m10 171 rfl
theorem in_X16 : ∀ w ∈ wsX160, w ∈ lw_all := lw_in wsX160 [1109] (by decide +kernel) (by decide +kernel)
/-! PumpCrossing$Down -/
set_option maxRecDepth 100000
def RX17 : String := "PumpCrossing$Down"
def TX17 : u_T := fun k => match k with
  | _ => ("PumpCrossing$Move", "n", "I", true)
def tyX17 : Nat → FieldType := fun k => match k with
  | _ => .int
abbrev wsX170 : List Cond := u_ws RX17 TX17 1
theorem nmX17 : ∀ a, a < 1 → ∀ b, b < 1 → a ≠ b → (TX17 a).2.1 ≠ (TX17 b).2.1 := by decide +kernel
theorem tyX17_ok : ∀ k, k < 1 → parseFieldDescriptor (TX17 k).2.2.1 = some (tyX17 k) := by decide +kernel
abbrev cX17_init : ByteArray := prog_6_method_1_code
def yX17_init : MethodName := ⟨RX17, "<init>", "(I)V"⟩
def dkwX17_init_0 : List UInt8 := [42, 27, 183, 0, 3, 177]
abbrev dktX17_init_0 : List UInt8 := dkwX17_init_0 ++ []
theorem dksX17_init_0 : cX17_init.data.toList.drop 0 = dktX17_init_0 := by decide +kernel
theorem dX17_init_0 : decode cX17_init 0 = .ok (.aload_n 0, 1) := dk_42 (dk_at dksX17_init_0 0 rfl rfl)
theorem dX17_init_1 : decode cX17_init 1 = .ok (.iload_n 1, 1) := dk_27 (dk_at dksX17_init_0 1 rfl rfl)
theorem dX17_init_2 : decode cX17_init 2 = .ok (.invokespecial 3, 3) := dk_183 0 3 (dk_at dksX17_init_0 2 rfl rfl)
theorem dX17_init_5 : decode cX17_init 5 = .ok (.return_, 1) := dk_177 (dk_at dksX17_init_0 5 rfl rfl)
abbrev cX17_to : ByteArray := prog_6_method_2_code
def yX17_to : MethodName := ⟨RX17, "to", "([I)I"⟩
def dkwX17_to_0 : List UInt8 := [43, 3, 46, 42, 180, 0, 9, 100, 172]
abbrev dktX17_to_0 : List UInt8 := dkwX17_to_0 ++ []
theorem dksX17_to_0 : cX17_to.data.toList.drop 0 = dktX17_to_0 := by decide +kernel
theorem dX17_to_0 : decode cX17_to 0 = .ok (.aload_n 1, 1) := dk_43 (dk_at dksX17_to_0 0 rfl rfl)
theorem dX17_to_1 : decode cX17_to 1 = .ok (.iconst 0, 1) := dk_3 (dk_at dksX17_to_0 1 rfl rfl)
theorem dX17_to_2 : decode cX17_to 2 = .ok (.iaload, 1) := dk_46 (dk_at dksX17_to_0 2 rfl rfl)
theorem dX17_to_3 : decode cX17_to 3 = .ok (.aload_n 0, 1) := dk_42 (dk_at dksX17_to_0 3 rfl rfl)
theorem dX17_to_4 : decode cX17_to 4 = .ok (.getfield 9, 3) := dk_180 0 9 (dk_at dksX17_to_0 4 rfl rfl)
theorem dX17_to_7 : decode cX17_to 7 = .ok (.isub, 1) := dk_100 (dk_at dksX17_to_0 7 rfl rfl)
theorem dX17_to_8 : decode cX17_to 8 = .ok (.ireturn, 1) := dk_172 (dk_at dksX17_to_0 8 rfl rfl)
theorem q132 : (Jvm.Cond.initialized "PumpCrossing$Down") ∈ lw_all := lw_g (lw_at lw_m1 36 rfl) rfl
theorem q682 : (Jvm.Cond.selects "PumpCrossing$Down" ({ cls := "java/lang/Object", name := "getClass", desc := "()Ljava/lang/Class;" } : Jvm.MethodName) ({ cls := "java/lang/Object", name := "getClass", desc := "()Ljava/lang/Class;" } : Jvm.MethodName)) ∈ lw_all := lw_g (lw_at lw_m3 106 rfl) rfl
theorem q1105 : (Jvm.Cond.fieldLink "PumpCrossing$Down" (9 : Nat) "PumpCrossing$Down" "n" "I") ∈ lw_all := lw_g (lw_at lw_m5 49 rfl) rfl
theorem q1106 : (Jvm.Cond.sameField "PumpCrossing$Down" "PumpCrossing$Move" "n" "I") ∈ lw_all := lw_g (lw_at lw_m5 50 rfl) rfl
theorem q1113 : (Jvm.Cond.instantiable "PumpCrossing$Down" (1 : Nat)) ∈ lw_all := lw_g (lw_at lw_m5 57 rfl) rfl
theorem q1115 : (Jvm.Cond.instanceMethod ({ cls := "PumpCrossing$Down", name := "<init>", desc := "(I)V" } : Jvm.MethodName)) ∈ lw_all := lw_g (lw_at lw_m5 59 rfl) rfl
theorem q1116 : (Jvm.Cond.code ({ cls := "PumpCrossing$Down", name := "<init>", desc := "(I)V" } : Jvm.MethodName) prog_6_method_1_code (2 : Nat) (Option.none : Option Jvm.ClassFile.FieldType)) ∈ lw_all := lw_g (lw_at lw_m5 60 rfl) rfl
theorem q1117 : (Jvm.Cond.methodLink "PumpCrossing$Down" (3 : Nat) ({ cls := "PumpCrossing$Move", name := "<init>", desc := "(I)V" } : Jvm.MethodName)) ∈ lw_all := lw_g (lw_at lw_m5 61 rfl) rfl
theorem q1118 : (Jvm.Cond.laysFinal "PumpCrossing$Down" "PumpCrossing$Move" "n" "I") ∈ lw_all := lw_g (lw_at lw_m5 62 rfl) rfl
theorem q1119 : (Jvm.Cond.superclass "PumpCrossing$Down" "PumpCrossing$Move") ∈ lw_all := lw_g (lw_at lw_m5 63 rfl) rfl
theorem q1390 : (Jvm.Cond.selects "PumpCrossing$Down" ({ cls := "PumpCrossing$Move", name := "to", desc := "([I)I" } : Jvm.MethodName) ({ cls := "PumpCrossing$Down", name := "to", desc := "([I)I" } : Jvm.MethodName)) ∈ lw_all := lw_g (lw_at lw_m6 94 rfl) rfl
theorem q1391 : (Jvm.Cond.instanceMethod ({ cls := "PumpCrossing$Down", name := "to", desc := "([I)I" } : Jvm.MethodName)) ∈ lw_all := lw_g (lw_at lw_m6 95 rfl) rfl
theorem q1392 : (Jvm.Cond.code ({ cls := "PumpCrossing$Down", name := "to", desc := "([I)I" } : Jvm.MethodName) prog_6_method_2_code (2 : Nat) (Option.some Jvm.ClassFile.FieldType.int)) ∈ lw_all := lw_g (lw_at lw_m6 96 rfl) rfl
theorem q2428 : (Jvm.Cond.castable "PumpCrossing$Down" "java/lang/Object") ∈ lw_tbl := lw_at lw_m10 172 rfl
theorem in_X17 : ∀ w ∈ wsX170, w ∈ lw_all := lw_in wsX170 [1118] (by decide +kernel) (by decide +kernel)
/-! PumpCrossing$To -/
set_option maxRecDepth 100000
def RX18 : String := "PumpCrossing$To"
def TX18 : u_T := fun k => match k with
  | _ => ("PumpCrossing$Move", "n", "I", true)
def tyX18 : Nat → FieldType := fun k => match k with
  | _ => .int
abbrev wsX180 : List Cond := u_ws RX18 TX18 1
theorem nmX18 : ∀ a, a < 1 → ∀ b, b < 1 → a ≠ b → (TX18 a).2.1 ≠ (TX18 b).2.1 := by decide +kernel
theorem tyX18_ok : ∀ k, k < 1 → parseFieldDescriptor (TX18 k).2.2.1 = some (tyX18 k) := by decide +kernel
abbrev cX18_init : ByteArray := prog_23_method_1_code
def yX18_init : MethodName := ⟨RX18, "<init>", "(I)V"⟩
def dkwX18_init_0 : List UInt8 := [42, 27, 183, 0, 1, 177]
abbrev dktX18_init_0 : List UInt8 := dkwX18_init_0 ++ []
theorem dksX18_init_0 : cX18_init.data.toList.drop 0 = dktX18_init_0 := by decide +kernel
theorem dX18_init_0 : decode cX18_init 0 = .ok (.aload_n 0, 1) := dk_42 (dk_at dksX18_init_0 0 rfl rfl)
theorem dX18_init_1 : decode cX18_init 1 = .ok (.iload_n 1, 1) := dk_27 (dk_at dksX18_init_0 1 rfl rfl)
theorem dX18_init_2 : decode cX18_init 2 = .ok (.invokespecial 1, 3) := dk_183 0 1 (dk_at dksX18_init_0 2 rfl rfl)
theorem dX18_init_5 : decode cX18_init 5 = .ok (.return_, 1) := dk_177 (dk_at dksX18_init_0 5 rfl rfl)
abbrev cX18_to : ByteArray := prog_23_method_2_code
def yX18_to : MethodName := ⟨RX18, "to", "([I)I"⟩
theorem dX18_to_0 : decode cX18_to 0 = .ok (.aload_n 0, 1) := by decide +kernel
theorem dX18_to_1 : decode cX18_to 1 = .ok (.getfield 7, 3) := by decide +kernel
theorem dX18_to_4 : decode cX18_to 4 = .ok (.ireturn, 1) := by decide +kernel
theorem q133 : (Jvm.Cond.initialized "PumpCrossing$To") ∈ lw_all := lw_g (lw_at lw_m1 37 rfl) rfl
theorem q695 : (Jvm.Cond.selects "PumpCrossing$To" ({ cls := "java/lang/Object", name := "getClass", desc := "()Ljava/lang/Class;" } : Jvm.MethodName) ({ cls := "java/lang/Object", name := "getClass", desc := "()Ljava/lang/Class;" } : Jvm.MethodName)) ∈ lw_all := lw_g (lw_at lw_m3 119 rfl) rfl
theorem q1101 : (Jvm.Cond.fieldLink "PumpCrossing$To" (7 : Nat) "PumpCrossing$To" "n" "I") ∈ lw_all := lw_g (lw_at lw_m5 45 rfl) rfl
theorem q1102 : (Jvm.Cond.sameField "PumpCrossing$To" "PumpCrossing$Move" "n" "I") ∈ lw_all := lw_g (lw_at lw_m5 46 rfl) rfl
theorem q1121 : (Jvm.Cond.instantiable "PumpCrossing$To" (1 : Nat)) ∈ lw_all := lw_g (lw_at lw_m5 65 rfl) rfl
theorem q1123 : (Jvm.Cond.instanceMethod ({ cls := "PumpCrossing$To", name := "<init>", desc := "(I)V" } : Jvm.MethodName)) ∈ lw_all := lw_g (lw_at lw_m5 67 rfl) rfl
theorem q1124 : (Jvm.Cond.code ({ cls := "PumpCrossing$To", name := "<init>", desc := "(I)V" } : Jvm.MethodName) prog_23_method_1_code (2 : Nat) (Option.none : Option Jvm.ClassFile.FieldType)) ∈ lw_all := lw_g (lw_at lw_m5 68 rfl) rfl
theorem q1125 : (Jvm.Cond.methodLink "PumpCrossing$To" (1 : Nat) ({ cls := "PumpCrossing$Move", name := "<init>", desc := "(I)V" } : Jvm.MethodName)) ∈ lw_all := lw_g (lw_at lw_m5 69 rfl) rfl
theorem q1126 : (Jvm.Cond.laysFinal "PumpCrossing$To" "PumpCrossing$Move" "n" "I") ∈ lw_all := lw_g (lw_at lw_m5 70 rfl) rfl
theorem q1127 : (Jvm.Cond.superclass "PumpCrossing$To" "PumpCrossing$Move") ∈ lw_all := lw_g (lw_at lw_m5 71 rfl) rfl
theorem q1396 : (Jvm.Cond.selects "PumpCrossing$To" ({ cls := "PumpCrossing$Move", name := "to", desc := "([I)I" } : Jvm.MethodName) ({ cls := "PumpCrossing$To", name := "to", desc := "([I)I" } : Jvm.MethodName)) ∈ lw_all := lw_g (lw_at lw_m6 100 rfl) rfl
theorem q1397 : (Jvm.Cond.instanceMethod ({ cls := "PumpCrossing$To", name := "to", desc := "([I)I" } : Jvm.MethodName)) ∈ lw_all := lw_g (lw_at lw_m6 101 rfl) rfl
theorem q1398 : (Jvm.Cond.code ({ cls := "PumpCrossing$To", name := "to", desc := "([I)I" } : Jvm.MethodName) prog_23_method_2_code (2 : Nat) (Option.some Jvm.ClassFile.FieldType.int)) ∈ lw_all := lw_g (lw_at lw_m6 102 rfl) rfl
theorem q2429 : (Jvm.Cond.castable "PumpCrossing$To" "java/lang/Object") ∈ lw_tbl := lw_at lw_m10 173 rfl
theorem in_X18 : ∀ w ∈ wsX180, w ∈ lw_all := lw_in wsX180 [1126] (by decide +kernel) (by decide +kernel)
/-! PumpCrossing$Below -/
set_option maxRecDepth 100000
def RX19 : String := "PumpCrossing$Below"
def TX19 : u_T := fun k => match k with
  | _ => ("PumpCrossing$Move", "n", "I", true)
def tyX19 : Nat → FieldType := fun k => match k with
  | _ => .int
abbrev wsX190 : List Cond := u_ws RX19 TX19 1
theorem nmX19 : ∀ a, a < 1 → ∀ b, b < 1 → a ≠ b → (TX19 a).2.1 ≠ (TX19 b).2.1 := by decide +kernel
theorem tyX19_ok : ∀ k, k < 1 → parseFieldDescriptor (TX19 k).2.2.1 = some (tyX19 k) := by decide +kernel
abbrev cX19_init : ByteArray := prog_3_method_1_code
def yX19_init : MethodName := ⟨RX19, "<init>", "(I)V"⟩
def dkwX19_init_0 : List UInt8 := [42, 27, 183, 0, 3, 177]
abbrev dktX19_init_0 : List UInt8 := dkwX19_init_0 ++ []
theorem dksX19_init_0 : cX19_init.data.toList.drop 0 = dktX19_init_0 := by decide +kernel
theorem dX19_init_0 : decode cX19_init 0 = .ok (.aload_n 0, 1) := dk_42 (dk_at dksX19_init_0 0 rfl rfl)
theorem dX19_init_1 : decode cX19_init 1 = .ok (.iload_n 1, 1) := dk_27 (dk_at dksX19_init_0 1 rfl rfl)
theorem dX19_init_2 : decode cX19_init 2 = .ok (.invokespecial 3, 3) := dk_183 0 3 (dk_at dksX19_init_0 2 rfl rfl)
theorem dX19_init_5 : decode cX19_init 5 = .ok (.return_, 1) := dk_177 (dk_at dksX19_init_0 5 rfl rfl)
abbrev cX19_to : ByteArray := prog_3_method_2_code
def yX19_to : MethodName := ⟨RX19, "to", "([I)I"⟩
def dkwX19_to_0 : List UInt8 := [43, 4, 46, 42, 180, 0, 9, 100, 172]
abbrev dktX19_to_0 : List UInt8 := dkwX19_to_0 ++ []
theorem dksX19_to_0 : cX19_to.data.toList.drop 0 = dktX19_to_0 := by decide +kernel
theorem dX19_to_0 : decode cX19_to 0 = .ok (.aload_n 1, 1) := dk_43 (dk_at dksX19_to_0 0 rfl rfl)
theorem dX19_to_1 : decode cX19_to 1 = .ok (.iconst 1, 1) := dk_4 (dk_at dksX19_to_0 1 rfl rfl)
theorem dX19_to_2 : decode cX19_to 2 = .ok (.iaload, 1) := dk_46 (dk_at dksX19_to_0 2 rfl rfl)
theorem dX19_to_3 : decode cX19_to 3 = .ok (.aload_n 0, 1) := dk_42 (dk_at dksX19_to_0 3 rfl rfl)
theorem dX19_to_4 : decode cX19_to 4 = .ok (.getfield 9, 3) := dk_180 0 9 (dk_at dksX19_to_0 4 rfl rfl)
theorem dX19_to_7 : decode cX19_to 7 = .ok (.isub, 1) := dk_100 (dk_at dksX19_to_0 7 rfl rfl)
theorem dX19_to_8 : decode cX19_to 8 = .ok (.ireturn, 1) := dk_172 (dk_at dksX19_to_0 8 rfl rfl)
theorem q134 : (Jvm.Cond.initialized "PumpCrossing$Below") ∈ lw_all := lw_g (lw_at lw_m1 38 rfl) rfl
theorem q679 : (Jvm.Cond.selects "PumpCrossing$Below" ({ cls := "java/lang/Object", name := "getClass", desc := "()Ljava/lang/Class;" } : Jvm.MethodName) ({ cls := "java/lang/Object", name := "getClass", desc := "()Ljava/lang/Class;" } : Jvm.MethodName)) ∈ lw_all := lw_g (lw_at lw_m3 103 rfl) rfl
theorem q1103 : (Jvm.Cond.fieldLink "PumpCrossing$Below" (9 : Nat) "PumpCrossing$Below" "n" "I") ∈ lw_all := lw_g (lw_at lw_m5 47 rfl) rfl
theorem q1104 : (Jvm.Cond.sameField "PumpCrossing$Below" "PumpCrossing$Move" "n" "I") ∈ lw_all := lw_g (lw_at lw_m5 48 rfl) rfl
theorem q1129 : (Jvm.Cond.instantiable "PumpCrossing$Below" (1 : Nat)) ∈ lw_all := lw_g (lw_at lw_m5 73 rfl) rfl
theorem q1131 : (Jvm.Cond.instanceMethod ({ cls := "PumpCrossing$Below", name := "<init>", desc := "(I)V" } : Jvm.MethodName)) ∈ lw_all := lw_g (lw_at lw_m5 75 rfl) rfl
theorem q1132 : (Jvm.Cond.code ({ cls := "PumpCrossing$Below", name := "<init>", desc := "(I)V" } : Jvm.MethodName) prog_3_method_1_code (2 : Nat) (Option.none : Option Jvm.ClassFile.FieldType)) ∈ lw_all := lw_g (lw_at lw_m5 76 rfl) rfl
theorem q1133 : (Jvm.Cond.methodLink "PumpCrossing$Below" (3 : Nat) ({ cls := "PumpCrossing$Move", name := "<init>", desc := "(I)V" } : Jvm.MethodName)) ∈ lw_all := lw_g (lw_at lw_m5 77 rfl) rfl
theorem q1134 : (Jvm.Cond.laysFinal "PumpCrossing$Below" "PumpCrossing$Move" "n" "I") ∈ lw_all := lw_g (lw_at lw_m5 78 rfl) rfl
theorem q1135 : (Jvm.Cond.superclass "PumpCrossing$Below" "PumpCrossing$Move") ∈ lw_all := lw_g (lw_at lw_m5 79 rfl) rfl
theorem q1387 : (Jvm.Cond.selects "PumpCrossing$Below" ({ cls := "PumpCrossing$Move", name := "to", desc := "([I)I" } : Jvm.MethodName) ({ cls := "PumpCrossing$Below", name := "to", desc := "([I)I" } : Jvm.MethodName)) ∈ lw_all := lw_g (lw_at lw_m6 91 rfl) rfl
theorem q1388 : (Jvm.Cond.instanceMethod ({ cls := "PumpCrossing$Below", name := "to", desc := "([I)I" } : Jvm.MethodName)) ∈ lw_all := lw_g (lw_at lw_m6 92 rfl) rfl
theorem q1389 : (Jvm.Cond.code ({ cls := "PumpCrossing$Below", name := "to", desc := "([I)I" } : Jvm.MethodName) prog_3_method_2_code (2 : Nat) (Option.some Jvm.ClassFile.FieldType.int)) ∈ lw_all := lw_g (lw_at lw_m6 93 rfl) rfl
theorem q2430 : (Jvm.Cond.castable "PumpCrossing$Below" "java/lang/Object") ∈ lw_tbl := lw_at lw_m10 174 rfl
theorem in_X19 : ∀ w ∈ wsX190, w ∈ lw_all := lw_in wsX190 [1134] (by decide +kernel) (by decide +kernel)
/-! PumpCrossing$Keep -/
set_option maxRecDepth 100000
def RX20 : String := "PumpCrossing$Keep"
def TX20 : u_T := fun k => match k with
  | _ => ("PumpCrossing$Move", "n", "I", true)
def tyX20 : Nat → FieldType := fun k => match k with
  | _ => .int
abbrev wsX200 : List Cond := u_ws RX20 TX20 1
theorem nmX20 : ∀ a, a < 1 → ∀ b, b < 1 → a ≠ b → (TX20 a).2.1 ≠ (TX20 b).2.1 := by decide +kernel
theorem tyX20_ok : ∀ k, k < 1 → parseFieldDescriptor (TX20 k).2.2.1 = some (tyX20 k) := by decide +kernel
abbrev cX20_init : ByteArray := prog_9_method_1_code
def yX20_init : MethodName := ⟨RX20, "<init>", "()V"⟩
def dkwX20_init_0 : List UInt8 := [42, 3, 183, 0, 3, 177]
abbrev dktX20_init_0 : List UInt8 := dkwX20_init_0 ++ []
theorem dksX20_init_0 : cX20_init.data.toList.drop 0 = dktX20_init_0 := by decide +kernel
theorem dX20_init_0 : decode cX20_init 0 = .ok (.aload_n 0, 1) := dk_42 (dk_at dksX20_init_0 0 rfl rfl)
theorem dX20_init_1 : decode cX20_init 1 = .ok (.iconst 0, 1) := dk_3 (dk_at dksX20_init_0 1 rfl rfl)
theorem dX20_init_2 : decode cX20_init 2 = .ok (.invokespecial 3, 3) := dk_183 0 3 (dk_at dksX20_init_0 2 rfl rfl)
theorem dX20_init_5 : decode cX20_init 5 = .ok (.return_, 1) := dk_177 (dk_at dksX20_init_0 5 rfl rfl)
abbrev cX20_to : ByteArray := prog_9_method_2_code
def yX20_to : MethodName := ⟨RX20, "to", "([I)I"⟩
def dkwX20_to_0 : List UInt8 := [43, 3, 46, 172]
abbrev dktX20_to_0 : List UInt8 := dkwX20_to_0 ++ []
theorem dksX20_to_0 : cX20_to.data.toList.drop 0 = dktX20_to_0 := by decide +kernel
theorem dX20_to_0 : decode cX20_to 0 = .ok (.aload_n 1, 1) := dk_43 (dk_at dksX20_to_0 0 rfl rfl)
theorem dX20_to_1 : decode cX20_to 1 = .ok (.iconst 0, 1) := dk_3 (dk_at dksX20_to_0 1 rfl rfl)
theorem dX20_to_2 : decode cX20_to 2 = .ok (.iaload, 1) := dk_46 (dk_at dksX20_to_0 2 rfl rfl)
theorem dX20_to_3 : decode cX20_to 3 = .ok (.ireturn, 1) := dk_172 (dk_at dksX20_to_0 3 rfl rfl)
theorem q135 : (Jvm.Cond.initialized "PumpCrossing$Keep") ∈ lw_all := lw_g (lw_at lw_m1 39 rfl) rfl
theorem q685 : (Jvm.Cond.selects "PumpCrossing$Keep" ({ cls := "java/lang/Object", name := "getClass", desc := "()Ljava/lang/Class;" } : Jvm.MethodName) ({ cls := "java/lang/Object", name := "getClass", desc := "()Ljava/lang/Class;" } : Jvm.MethodName)) ∈ lw_all := lw_g (lw_at lw_m3 109 rfl) rfl
theorem q1137 : (Jvm.Cond.instantiable "PumpCrossing$Keep" (1 : Nat)) ∈ lw_all := lw_g (lw_at lw_m5 81 rfl) rfl
theorem q1139 : (Jvm.Cond.instanceMethod ({ cls := "PumpCrossing$Keep", name := "<init>", desc := "()V" } : Jvm.MethodName)) ∈ lw_all := lw_g (lw_at lw_m5 83 rfl) rfl
theorem q1140 : (Jvm.Cond.code ({ cls := "PumpCrossing$Keep", name := "<init>", desc := "()V" } : Jvm.MethodName) prog_9_method_1_code (1 : Nat) (Option.none : Option Jvm.ClassFile.FieldType)) ∈ lw_all := lw_g (lw_at lw_m5 84 rfl) rfl
theorem q1141 : (Jvm.Cond.methodLink "PumpCrossing$Keep" (3 : Nat) ({ cls := "PumpCrossing$Move", name := "<init>", desc := "(I)V" } : Jvm.MethodName)) ∈ lw_all := lw_g (lw_at lw_m5 85 rfl) rfl
theorem q1142 : (Jvm.Cond.laysFinal "PumpCrossing$Keep" "PumpCrossing$Move" "n" "I") ∈ lw_all := lw_g (lw_at lw_m5 86 rfl) rfl
theorem q1143 : (Jvm.Cond.superclass "PumpCrossing$Keep" "PumpCrossing$Move") ∈ lw_all := lw_g (lw_at lw_m5 87 rfl) rfl
theorem q1393 : (Jvm.Cond.selects "PumpCrossing$Keep" ({ cls := "PumpCrossing$Move", name := "to", desc := "([I)I" } : Jvm.MethodName) ({ cls := "PumpCrossing$Keep", name := "to", desc := "([I)I" } : Jvm.MethodName)) ∈ lw_all := lw_g (lw_at lw_m6 97 rfl) rfl
theorem q1394 : (Jvm.Cond.instanceMethod ({ cls := "PumpCrossing$Keep", name := "to", desc := "([I)I" } : Jvm.MethodName)) ∈ lw_all := lw_g (lw_at lw_m6 98 rfl) rfl
theorem q1395 : (Jvm.Cond.code ({ cls := "PumpCrossing$Keep", name := "to", desc := "([I)I" } : Jvm.MethodName) prog_9_method_2_code (2 : Nat) (Option.some Jvm.ClassFile.FieldType.int)) ∈ lw_all := lw_g (lw_at lw_m6 99 rfl) rfl
theorem q2431 : (Jvm.Cond.castable "PumpCrossing$Keep" "java/lang/Object") ∈ lw_tbl := lw_at lw_m10 175 rfl
theorem in_X20 : ∀ w ∈ wsX200, w ∈ lw_all := lw_in wsX200 [1142] (by decide +kernel) (by decide +kernel)
/-! PumpCrossing$Rule -/
set_option maxRecDepth 100000
def RX21 : String := "PumpCrossing$Rule"
def TX21 : u_T := fun k => match k with
  | 0 => ("PumpCrossing$Rule", "move", "LPumpCrossing$Move;", true)
  | _ => ("PumpCrossing$Rule", "when", "LPumpCrossing$Term;", true)
def tyX21 : Nat → FieldType := fun k => match k with
  | 0 => .object "PumpCrossing$Move"
  | _ => .object "PumpCrossing$Term"
abbrev wsX210 : List Cond := u_ws RX21 TX21 2
theorem nmX21 : ∀ a, a < 2 → ∀ b, b < 2 → a ≠ b → (TX21 a).2.1 ≠ (TX21 b).2.1 := by decide +kernel
theorem tyX21_ok : ∀ k, k < 2 → parseFieldDescriptor (TX21 k).2.2.1 = some (tyX21 k) := by decide +kernel
abbrev cX21_init : ByteArray := prog_18_method_1_code
def yX21_init : MethodName := ⟨RX21, "<init>", "(LPumpCrossing$Move;LPumpCrossing$Term;)V"⟩
def dkwX21_init_0 : List UInt8 := [42, 183, 0, 1, 42, 43, 181, 0, 7, 42, 44, 181, 0, 13, 177]
abbrev dktX21_init_0 : List UInt8 := dkwX21_init_0 ++ []
theorem dksX21_init_0 : cX21_init.data.toList.drop 0 = dktX21_init_0 := by decide +kernel
theorem dX21_init_0 : decode cX21_init 0 = .ok (.aload_n 0, 1) := dk_42 (dk_at dksX21_init_0 0 rfl rfl)
theorem dX21_init_1 : decode cX21_init 1 = .ok (.invokespecial 1, 3) := dk_183 0 1 (dk_at dksX21_init_0 1 rfl rfl)
theorem dX21_init_4 : decode cX21_init 4 = .ok (.aload_n 0, 1) := dk_42 (dk_at dksX21_init_0 4 rfl rfl)
theorem dX21_init_5 : decode cX21_init 5 = .ok (.aload_n 1, 1) := dk_43 (dk_at dksX21_init_0 5 rfl rfl)
theorem dX21_init_6 : decode cX21_init 6 = .ok (.putfield 7, 3) := dk_181 0 7 (dk_at dksX21_init_0 6 rfl rfl)
theorem dX21_init_9 : decode cX21_init 9 = .ok (.aload_n 0, 1) := dk_42 (dk_at dksX21_init_0 9 rfl rfl)
theorem dX21_init_10 : decode cX21_init 10 = .ok (.aload_n 2, 1) := dk_44 (dk_at dksX21_init_0 10 rfl rfl)
theorem dX21_init_11 : decode cX21_init 11 = .ok (.putfield 13, 3) := dk_181 0 13 (dk_at dksX21_init_0 11 rfl rfl)
theorem dX21_init_14 : decode cX21_init 14 = .ok (.return_, 1) := dk_177 (dk_at dksX21_init_0 14 rfl rfl)
abbrev cX21_holds : ByteArray := prog_18_method_2_code
def yX21_holds : MethodName := ⟨RX21, "holds", "([I)Z"⟩
def dkwX21_holds_1 : List UInt8 := [3, 172]
abbrev dktX21_holds_1 : List UInt8 := dkwX21_holds_1 ++ []
def dkwX21_holds_0 : List UInt8 := [42, 180, 0, 13, 198, 0, 16, 42, 180, 0, 13, 43, 185, 0, 17, 2, 0, 153, 0, 7, 4, 167, 0, 4]
abbrev dktX21_holds_0 : List UInt8 := dkwX21_holds_0 ++ dktX21_holds_1
theorem dksX21_holds_0 : cX21_holds.data.toList.drop 0 = dktX21_holds_0 := by decide +kernel
theorem dksX21_holds_1 : cX21_holds.data.toList.drop 24 = dktX21_holds_1 := dk_seg dksX21_holds_0 24 rfl rfl
theorem dX21_holds_0 : decode cX21_holds 0 = .ok (.aload_n 0, 1) := dk_42 (dk_at dksX21_holds_0 0 rfl rfl)
theorem dX21_holds_1 : decode cX21_holds 1 = .ok (.getfield 13, 3) := dk_180 0 13 (dk_at dksX21_holds_0 1 rfl rfl)
theorem dX21_holds_4 : decode cX21_holds 4 = .ok (.ifnull 16, 3) := dk_198 0 16 (dk_at dksX21_holds_0 4 rfl rfl)
theorem dX21_holds_7 : decode cX21_holds 7 = .ok (.aload_n 0, 1) := dk_42 (dk_at dksX21_holds_0 7 rfl rfl)
theorem dX21_holds_8 : decode cX21_holds 8 = .ok (.getfield 13, 3) := dk_180 0 13 (dk_at dksX21_holds_0 8 rfl rfl)
theorem dX21_holds_11 : decode cX21_holds 11 = .ok (.aload_n 1, 1) := dk_43 (dk_at dksX21_holds_0 11 rfl rfl)
theorem dX21_holds_12 : decode cX21_holds 12 = .ok (.invokeinterface 17 2, 5) := by decide +kernel
theorem dX21_holds_17 : decode cX21_holds 17 = .ok (.ifCond .eq 7, 3) := dk_153 0 7 (dk_at dksX21_holds_0 17 rfl rfl)
theorem dX21_holds_20 : decode cX21_holds 20 = .ok (.iconst 1, 1) := dk_4 (dk_at dksX21_holds_0 20 rfl rfl)
theorem dX21_holds_21 : decode cX21_holds 21 = .ok (.goto 4, 3) := dk_167 0 4 (dk_at dksX21_holds_0 21 rfl rfl)
theorem dX21_holds_24 : decode cX21_holds 24 = .ok (.iconst 0, 1) := dk_3 (dk_at dksX21_holds_1 0 rfl rfl)
theorem dX21_holds_25 : decode cX21_holds 25 = .ok (.ireturn, 1) := dk_172 (dk_at dksX21_holds_1 1 rfl rfl)
theorem q136 : (Jvm.Cond.initialized "PumpCrossing$Rule") ∈ lw_all := lw_g (lw_at lw_m1 40 rfl) rfl
theorem q691 : (Jvm.Cond.selects "PumpCrossing$Rule" ({ cls := "java/lang/Object", name := "getClass", desc := "()Ljava/lang/Class;" } : Jvm.MethodName) ({ cls := "java/lang/Object", name := "getClass", desc := "()Ljava/lang/Class;" } : Jvm.MethodName)) ∈ lw_all := lw_g (lw_at lw_m3 115 rfl) rfl
theorem q1148 : (Jvm.Cond.instantiable "PumpCrossing$Rule" (2 : Nat)) ∈ lw_all := lw_g (lw_at lw_m5 92 rfl) rfl
theorem q1245 : (Jvm.Cond.instanceMethod ({ cls := "PumpCrossing$Rule", name := "<init>", desc := "(LPumpCrossing$Move;LPumpCrossing$Term;)V" } : Jvm.MethodName)) ∈ lw_all := lw_g (lw_at lw_m5 189 rfl) rfl
theorem q1246 : (Jvm.Cond.code ({ cls := "PumpCrossing$Rule", name := "<init>", desc := "(LPumpCrossing$Move;LPumpCrossing$Term;)V" } : Jvm.MethodName) prog_18_method_1_code (3 : Nat) (Option.none : Option Jvm.ClassFile.FieldType)) ∈ lw_all := lw_g (lw_at lw_m5 190 rfl) rfl
theorem q1247 : (Jvm.Cond.methodLink "PumpCrossing$Rule" (1 : Nat) ({ cls := "java/lang/Object", name := "<init>", desc := "()V" } : Jvm.MethodName)) ∈ lw_all := lw_g (lw_at lw_m5 191 rfl) rfl
theorem q1248 : (Jvm.Cond.fieldLink "PumpCrossing$Rule" (7 : Nat) "PumpCrossing$Rule" "move" "LPumpCrossing$Move;") ∈ lw_all := lw_g (lw_at lw_m5 192 rfl) rfl
theorem q1250 : (Jvm.Cond.fieldLink "PumpCrossing$Rule" (13 : Nat) "PumpCrossing$Rule" "when" "LPumpCrossing$Term;") ∈ lw_all := lw_g (lw_at lw_m5 194 rfl) rfl
theorem q1251 : (Jvm.Cond.laysFinal "PumpCrossing$Rule" "PumpCrossing$Rule" "move" "LPumpCrossing$Move;") ∈ lw_all := lw_g (lw_at lw_m5 195 rfl) rfl
theorem q1252 : (Jvm.Cond.soleField "PumpCrossing$Rule" "move") ∈ lw_all := lw_g (lw_at lw_m5 196 rfl) rfl
theorem q1253 : (Jvm.Cond.laysFinal "PumpCrossing$Rule" "PumpCrossing$Rule" "when" "LPumpCrossing$Term;") ∈ lw_all := lw_g (lw_at lw_m5 197 rfl) rfl
theorem q1254 : (Jvm.Cond.soleField "PumpCrossing$Rule" "when") ∈ lw_all := lw_g (lw_at lw_m5 198 rfl) rfl
theorem q1255 : (Jvm.Cond.superclass "PumpCrossing$Rule" "java/lang/Object") ∈ lw_all := lw_g (lw_at lw_m5 199 rfl) rfl
theorem q1346 : (Jvm.Cond.instanceMethod ({ cls := "PumpCrossing$Rule", name := "holds", desc := "([I)Z" } : Jvm.MethodName)) ∈ lw_all := lw_g (lw_at lw_m6 50 rfl) rfl
theorem q1347 : (Jvm.Cond.selects "PumpCrossing$Rule" ({ cls := "PumpCrossing$Rule", name := "holds", desc := "([I)Z" } : Jvm.MethodName) ({ cls := "PumpCrossing$Rule", name := "holds", desc := "([I)Z" } : Jvm.MethodName)) ∈ lw_all := lw_g (lw_at lw_m6 51 rfl) rfl
theorem q1348 : (Jvm.Cond.code ({ cls := "PumpCrossing$Rule", name := "holds", desc := "([I)Z" } : Jvm.MethodName) prog_18_method_2_code (2 : Nat) (Option.some Jvm.ClassFile.FieldType.boolean)) ∈ lw_all := lw_g (lw_at lw_m6 52 rfl) rfl
theorem q1349 : (Jvm.Cond.interfaceEntry "PumpCrossing$Rule" (17 : Nat)) ∈ lw_tbl := lw_at lw_m6 53 rfl
theorem q1350 : (Jvm.Cond.methodLink "PumpCrossing$Rule" (17 : Nat) ({ cls := "PumpCrossing$Term", name := "of", desc := "([I)I" } : Jvm.MethodName)) ∈ lw_all := lw_g (lw_at lw_m6 54 rfl) rfl
theorem q2432 : (Jvm.Cond.castable "PumpCrossing$Rule" "java/lang/Object") ∈ lw_tbl := lw_at lw_m10 176 rfl
theorem in_X21 : ∀ w ∈ wsX210, w ∈ lw_all := lw_in wsX210 [1251, 1253] (by decide +kernel) (by decide +kernel)
/-! PumpCrossing$Not -/
set_option maxRecDepth 100000
def RX22 : String := "PumpCrossing$Not"
def TX22 : u_T := fun k => match k with
  | _ => ("PumpCrossing$Not", "in", "LPumpCrossing$Term;", true)
def tyX22 : Nat → FieldType := fun k => match k with
  | _ => .object "PumpCrossing$Term"
abbrev wsX220 : List Cond := u_ws RX22 TX22 1
theorem nmX22 : ∀ a, a < 1 → ∀ b, b < 1 → a ≠ b → (TX22 a).2.1 ≠ (TX22 b).2.1 := by decide +kernel
theorem tyX22_ok : ∀ k, k < 1 → parseFieldDescriptor (TX22 k).2.2.1 = some (tyX22 k) := by decide +kernel
abbrev cX22_init : ByteArray := prog_14_method_1_code
def yX22_init : MethodName := ⟨RX22, "<init>", "(LPumpCrossing$Term;)V"⟩
def dkwX22_init_0 : List UInt8 := [42, 183, 0, 1, 42, 43, 181, 0, 7, 177]
abbrev dktX22_init_0 : List UInt8 := dkwX22_init_0 ++ []
theorem dksX22_init_0 : cX22_init.data.toList.drop 0 = dktX22_init_0 := by decide +kernel
theorem dX22_init_0 : decode cX22_init 0 = .ok (.aload_n 0, 1) := dk_42 (dk_at dksX22_init_0 0 rfl rfl)
theorem dX22_init_1 : decode cX22_init 1 = .ok (.invokespecial 1, 3) := dk_183 0 1 (dk_at dksX22_init_0 1 rfl rfl)
theorem dX22_init_4 : decode cX22_init 4 = .ok (.aload_n 0, 1) := dk_42 (dk_at dksX22_init_0 4 rfl rfl)
theorem dX22_init_5 : decode cX22_init 5 = .ok (.aload_n 1, 1) := dk_43 (dk_at dksX22_init_0 5 rfl rfl)
theorem dX22_init_6 : decode cX22_init 6 = .ok (.putfield 7, 3) := dk_181 0 7 (dk_at dksX22_init_0 6 rfl rfl)
theorem dX22_init_9 : decode cX22_init 9 = .ok (.return_, 1) := dk_177 (dk_at dksX22_init_0 9 rfl rfl)
abbrev cX22_of : ByteArray := prog_14_method_2_code
def yX22_of : MethodName := ⟨RX22, "of", "([I)I"⟩
def dkwX22_of_0 : List UInt8 := [4, 42, 180, 0, 7, 43, 185, 0, 13, 2, 0, 100, 172]
abbrev dktX22_of_0 : List UInt8 := dkwX22_of_0 ++ []
theorem dksX22_of_0 : cX22_of.data.toList.drop 0 = dktX22_of_0 := by decide +kernel
theorem dX22_of_0 : decode cX22_of 0 = .ok (.iconst 1, 1) := dk_4 (dk_at dksX22_of_0 0 rfl rfl)
theorem dX22_of_1 : decode cX22_of 1 = .ok (.aload_n 0, 1) := dk_42 (dk_at dksX22_of_0 1 rfl rfl)
theorem dX22_of_2 : decode cX22_of 2 = .ok (.getfield 7, 3) := dk_180 0 7 (dk_at dksX22_of_0 2 rfl rfl)
theorem dX22_of_5 : decode cX22_of 5 = .ok (.aload_n 1, 1) := dk_43 (dk_at dksX22_of_0 5 rfl rfl)
theorem dX22_of_6 : decode cX22_of 6 = .ok (.invokeinterface 13 2, 5) := by decide +kernel
theorem dX22_of_11 : decode cX22_of 11 = .ok (.isub, 1) := dk_100 (dk_at dksX22_of_0 11 rfl rfl)
theorem dX22_of_12 : decode cX22_of 12 = .ok (.ireturn, 1) := dk_172 (dk_at dksX22_of_0 12 rfl rfl)
theorem q137 : (Jvm.Cond.initialized "PumpCrossing$Not") ∈ lw_all := lw_g (lw_at lw_m1 41 rfl) rfl
theorem q689 : (Jvm.Cond.selects "PumpCrossing$Not" ({ cls := "java/lang/Object", name := "getClass", desc := "()Ljava/lang/Class;" } : Jvm.MethodName) ({ cls := "java/lang/Object", name := "getClass", desc := "()Ljava/lang/Class;" } : Jvm.MethodName)) ∈ lw_all := lw_g (lw_at lw_m3 113 rfl) rfl
theorem q1168 : (Jvm.Cond.instantiable "PumpCrossing$Not" (1 : Nat)) ∈ lw_all := lw_g (lw_at lw_m5 112 rfl) rfl
theorem q1170 : (Jvm.Cond.instanceMethod ({ cls := "PumpCrossing$Not", name := "<init>", desc := "(LPumpCrossing$Term;)V" } : Jvm.MethodName)) ∈ lw_all := lw_g (lw_at lw_m5 114 rfl) rfl
theorem q1171 : (Jvm.Cond.code ({ cls := "PumpCrossing$Not", name := "<init>", desc := "(LPumpCrossing$Term;)V" } : Jvm.MethodName) prog_14_method_1_code (2 : Nat) (Option.none : Option Jvm.ClassFile.FieldType)) ∈ lw_all := lw_g (lw_at lw_m5 115 rfl) rfl
theorem q1172 : (Jvm.Cond.methodLink "PumpCrossing$Not" (1 : Nat) ({ cls := "java/lang/Object", name := "<init>", desc := "()V" } : Jvm.MethodName)) ∈ lw_all := lw_g (lw_at lw_m5 116 rfl) rfl
theorem q1173 : (Jvm.Cond.fieldLink "PumpCrossing$Not" (7 : Nat) "PumpCrossing$Not" "in" "LPumpCrossing$Term;") ∈ lw_all := lw_g (lw_at lw_m5 117 rfl) rfl
theorem q1174 : (Jvm.Cond.laysFinal "PumpCrossing$Not" "PumpCrossing$Not" "in" "LPumpCrossing$Term;") ∈ lw_all := lw_g (lw_at lw_m5 118 rfl) rfl
theorem q1175 : (Jvm.Cond.soleField "PumpCrossing$Not" "in") ∈ lw_all := lw_g (lw_at lw_m5 119 rfl) rfl
theorem q1176 : (Jvm.Cond.superclass "PumpCrossing$Not" "java/lang/Object") ∈ lw_all := lw_g (lw_at lw_m5 120 rfl) rfl
theorem q1359 : (Jvm.Cond.castable "PumpCrossing$Not" "PumpCrossing$Term") ∈ lw_tbl := lw_at lw_m6 63 rfl
theorem q1360 : (Jvm.Cond.selects "PumpCrossing$Not" ({ cls := "PumpCrossing$Term", name := "of", desc := "([I)I" } : Jvm.MethodName) ({ cls := "PumpCrossing$Not", name := "of", desc := "([I)I" } : Jvm.MethodName)) ∈ lw_all := lw_g (lw_at lw_m6 64 rfl) rfl
theorem q1361 : (Jvm.Cond.unhidden "PumpCrossing$Not" "of" "([I)I") ∈ lw_tbl := lw_at lw_m6 65 rfl
theorem q1362 : (Jvm.Cond.instanceMethod ({ cls := "PumpCrossing$Not", name := "of", desc := "([I)I" } : Jvm.MethodName)) ∈ lw_all := lw_g (lw_at lw_m6 66 rfl) rfl
theorem q1363 : (Jvm.Cond.publicMethod ({ cls := "PumpCrossing$Not", name := "of", desc := "([I)I" } : Jvm.MethodName)) ∈ lw_tbl := lw_at lw_m6 67 rfl
theorem q1364 : (Jvm.Cond.code ({ cls := "PumpCrossing$Not", name := "of", desc := "([I)I" } : Jvm.MethodName) prog_14_method_2_code (2 : Nat) (Option.some Jvm.ClassFile.FieldType.int)) ∈ lw_all := lw_g (lw_at lw_m6 68 rfl) rfl
theorem q1365 : (Jvm.Cond.interfaceEntry "PumpCrossing$Not" (13 : Nat)) ∈ lw_tbl := lw_at lw_m6 69 rfl
theorem q1366 : (Jvm.Cond.methodLink "PumpCrossing$Not" (13 : Nat) ({ cls := "PumpCrossing$Term", name := "of", desc := "([I)I" } : Jvm.MethodName)) ∈ lw_all := lw_g (lw_at lw_m6 70 rfl) rfl
theorem q2433 : (Jvm.Cond.castable "PumpCrossing$Not" "java/lang/Object") ∈ lw_tbl := lw_at lw_m10 177 rfl
theorem in_X22 : ∀ w ∈ wsX220, w ∈ lw_all := lw_in wsX220 [1174] (by decide +kernel) (by decide +kernel)
/-! PumpCrossing$Number -/
set_option maxRecDepth 100000
def RX23 : String := "PumpCrossing$Number"
def TX23 : u_T := fun k => match k with
  | _ => ("PumpCrossing$Number", "v", "I", true)
def tyX23 : Nat → FieldType := fun k => match k with
  | _ => .int
abbrev wsX230 : List Cond := u_ws RX23 TX23 1
theorem nmX23 : ∀ a, a < 1 → ∀ b, b < 1 → a ≠ b → (TX23 a).2.1 ≠ (TX23 b).2.1 := by decide +kernel
theorem tyX23_ok : ∀ k, k < 1 → parseFieldDescriptor (TX23 k).2.2.1 = some (tyX23 k) := by decide +kernel
abbrev cX23_init : ByteArray := prog_15_method_1_code
def yX23_init : MethodName := ⟨RX23, "<init>", "(I)V"⟩
def dkwX23_init_0 : List UInt8 := [42, 183, 0, 1, 42, 27, 181, 0, 7, 177]
abbrev dktX23_init_0 : List UInt8 := dkwX23_init_0 ++ []
theorem dksX23_init_0 : cX23_init.data.toList.drop 0 = dktX23_init_0 := by decide +kernel
theorem dX23_init_0 : decode cX23_init 0 = .ok (.aload_n 0, 1) := dk_42 (dk_at dksX23_init_0 0 rfl rfl)
theorem dX23_init_1 : decode cX23_init 1 = .ok (.invokespecial 1, 3) := dk_183 0 1 (dk_at dksX23_init_0 1 rfl rfl)
theorem dX23_init_4 : decode cX23_init 4 = .ok (.aload_n 0, 1) := dk_42 (dk_at dksX23_init_0 4 rfl rfl)
theorem dX23_init_5 : decode cX23_init 5 = .ok (.iload_n 1, 1) := dk_27 (dk_at dksX23_init_0 5 rfl rfl)
theorem dX23_init_6 : decode cX23_init 6 = .ok (.putfield 7, 3) := dk_181 0 7 (dk_at dksX23_init_0 6 rfl rfl)
theorem dX23_init_9 : decode cX23_init 9 = .ok (.return_, 1) := dk_177 (dk_at dksX23_init_0 9 rfl rfl)
abbrev cX23_of : ByteArray := prog_15_method_2_code
def yX23_of : MethodName := ⟨RX23, "of", "([I)I"⟩
theorem dX23_of_0 : decode cX23_of 0 = .ok (.aload_n 0, 1) := by decide +kernel
theorem dX23_of_1 : decode cX23_of 1 = .ok (.getfield 7, 3) := by decide +kernel
theorem dX23_of_4 : decode cX23_of 4 = .ok (.ireturn, 1) := by decide +kernel
theorem q138 : (Jvm.Cond.initialized "PumpCrossing$Number") ∈ lw_all := lw_g (lw_at lw_m1 42 rfl) rfl
theorem q690 : (Jvm.Cond.selects "PumpCrossing$Number" ({ cls := "java/lang/Object", name := "getClass", desc := "()Ljava/lang/Class;" } : Jvm.MethodName) ({ cls := "java/lang/Object", name := "getClass", desc := "()Ljava/lang/Class;" } : Jvm.MethodName)) ∈ lw_all := lw_g (lw_at lw_m3 114 rfl) rfl
theorem q1192 : (Jvm.Cond.instantiable "PumpCrossing$Number" (1 : Nat)) ∈ lw_all := lw_g (lw_at lw_m5 136 rfl) rfl
theorem q1194 : (Jvm.Cond.instanceMethod ({ cls := "PumpCrossing$Number", name := "<init>", desc := "(I)V" } : Jvm.MethodName)) ∈ lw_all := lw_g (lw_at lw_m5 138 rfl) rfl
theorem q1195 : (Jvm.Cond.code ({ cls := "PumpCrossing$Number", name := "<init>", desc := "(I)V" } : Jvm.MethodName) prog_15_method_1_code (2 : Nat) (Option.none : Option Jvm.ClassFile.FieldType)) ∈ lw_all := lw_g (lw_at lw_m5 139 rfl) rfl
theorem q1196 : (Jvm.Cond.methodLink "PumpCrossing$Number" (1 : Nat) ({ cls := "java/lang/Object", name := "<init>", desc := "()V" } : Jvm.MethodName)) ∈ lw_all := lw_g (lw_at lw_m5 140 rfl) rfl
theorem q1197 : (Jvm.Cond.fieldLink "PumpCrossing$Number" (7 : Nat) "PumpCrossing$Number" "v" "I") ∈ lw_all := lw_g (lw_at lw_m5 141 rfl) rfl
theorem q1198 : (Jvm.Cond.laysFinal "PumpCrossing$Number" "PumpCrossing$Number" "v" "I") ∈ lw_all := lw_g (lw_at lw_m5 142 rfl) rfl
theorem q1199 : (Jvm.Cond.soleField "PumpCrossing$Number" "v") ∈ lw_all := lw_g (lw_at lw_m5 143 rfl) rfl
theorem q1200 : (Jvm.Cond.superclass "PumpCrossing$Number" "java/lang/Object") ∈ lw_all := lw_g (lw_at lw_m5 144 rfl) rfl
theorem q1367 : (Jvm.Cond.castable "PumpCrossing$Number" "PumpCrossing$Term") ∈ lw_tbl := lw_at lw_m6 71 rfl
theorem q1368 : (Jvm.Cond.selects "PumpCrossing$Number" ({ cls := "PumpCrossing$Term", name := "of", desc := "([I)I" } : Jvm.MethodName) ({ cls := "PumpCrossing$Number", name := "of", desc := "([I)I" } : Jvm.MethodName)) ∈ lw_all := lw_g (lw_at lw_m6 72 rfl) rfl
theorem q1369 : (Jvm.Cond.unhidden "PumpCrossing$Number" "of" "([I)I") ∈ lw_tbl := lw_at lw_m6 73 rfl
theorem q1370 : (Jvm.Cond.instanceMethod ({ cls := "PumpCrossing$Number", name := "of", desc := "([I)I" } : Jvm.MethodName)) ∈ lw_all := lw_g (lw_at lw_m6 74 rfl) rfl
theorem q1371 : (Jvm.Cond.publicMethod ({ cls := "PumpCrossing$Number", name := "of", desc := "([I)I" } : Jvm.MethodName)) ∈ lw_tbl := lw_at lw_m6 75 rfl
theorem q1372 : (Jvm.Cond.code ({ cls := "PumpCrossing$Number", name := "of", desc := "([I)I" } : Jvm.MethodName) prog_15_method_2_code (2 : Nat) (Option.some Jvm.ClassFile.FieldType.int)) ∈ lw_all := lw_g (lw_at lw_m6 76 rfl) rfl
theorem q2434 : (Jvm.Cond.castable "PumpCrossing$Number" "java/lang/Object") ∈ lw_tbl := lw_at lw_m10 178 rfl
theorem in_X23 : ∀ w ∈ wsX230, w ∈ lw_all := lw_in wsX230 [1198] (by decide +kernel) (by decide +kernel)
/-! PumpCrossing$Fact -/
set_option maxRecDepth 100000
def RX24 : String := "PumpCrossing$Fact"
def TX24 : u_T := fun k => match k with
  | _ => ("PumpCrossing$Fact", "k", "I", true)
def tyX24 : Nat → FieldType := fun k => match k with
  | _ => .int
abbrev wsX240 : List Cond := u_ws RX24 TX24 1
theorem nmX24 : ∀ a, a < 1 → ∀ b, b < 1 → a ≠ b → (TX24 a).2.1 ≠ (TX24 b).2.1 := by decide +kernel
theorem tyX24_ok : ∀ k, k < 1 → parseFieldDescriptor (TX24 k).2.2.1 = some (tyX24 k) := by decide +kernel
abbrev cX24_init : ByteArray := prog_8_method_1_code
def yX24_init : MethodName := ⟨RX24, "<init>", "(I)V"⟩
def dkwX24_init_0 : List UInt8 := [42, 183, 0, 1, 42, 27, 181, 0, 7, 177]
abbrev dktX24_init_0 : List UInt8 := dkwX24_init_0 ++ []
theorem dksX24_init_0 : cX24_init.data.toList.drop 0 = dktX24_init_0 := by decide +kernel
theorem dX24_init_0 : decode cX24_init 0 = .ok (.aload_n 0, 1) := dk_42 (dk_at dksX24_init_0 0 rfl rfl)
theorem dX24_init_1 : decode cX24_init 1 = .ok (.invokespecial 1, 3) := dk_183 0 1 (dk_at dksX24_init_0 1 rfl rfl)
theorem dX24_init_4 : decode cX24_init 4 = .ok (.aload_n 0, 1) := dk_42 (dk_at dksX24_init_0 4 rfl rfl)
theorem dX24_init_5 : decode cX24_init 5 = .ok (.iload_n 1, 1) := dk_27 (dk_at dksX24_init_0 5 rfl rfl)
theorem dX24_init_6 : decode cX24_init 6 = .ok (.putfield 7, 3) := dk_181 0 7 (dk_at dksX24_init_0 6 rfl rfl)
theorem dX24_init_9 : decode cX24_init 9 = .ok (.return_, 1) := dk_177 (dk_at dksX24_init_0 9 rfl rfl)
abbrev cX24_of : ByteArray := prog_8_method_2_code
def yX24_of : MethodName := ⟨RX24, "of", "([I)I"⟩
def dkwX24_of_0 : List UInt8 := [43, 42, 180, 0, 7, 46, 172]
abbrev dktX24_of_0 : List UInt8 := dkwX24_of_0 ++ []
theorem dksX24_of_0 : cX24_of.data.toList.drop 0 = dktX24_of_0 := by decide +kernel
theorem dX24_of_0 : decode cX24_of 0 = .ok (.aload_n 1, 1) := dk_43 (dk_at dksX24_of_0 0 rfl rfl)
theorem dX24_of_1 : decode cX24_of 1 = .ok (.aload_n 0, 1) := dk_42 (dk_at dksX24_of_0 1 rfl rfl)
theorem dX24_of_2 : decode cX24_of 2 = .ok (.getfield 7, 3) := dk_180 0 7 (dk_at dksX24_of_0 2 rfl rfl)
theorem dX24_of_5 : decode cX24_of 5 = .ok (.iaload, 1) := dk_46 (dk_at dksX24_of_0 5 rfl rfl)
theorem dX24_of_6 : decode cX24_of 6 = .ok (.ireturn, 1) := dk_172 (dk_at dksX24_of_0 6 rfl rfl)
theorem q139 : (Jvm.Cond.initialized "PumpCrossing$Fact") ∈ lw_all := lw_g (lw_at lw_m1 43 rfl) rfl
theorem q684 : (Jvm.Cond.selects "PumpCrossing$Fact" ({ cls := "java/lang/Object", name := "getClass", desc := "()Ljava/lang/Class;" } : Jvm.MethodName) ({ cls := "java/lang/Object", name := "getClass", desc := "()Ljava/lang/Class;" } : Jvm.MethodName)) ∈ lw_all := lw_g (lw_at lw_m3 108 rfl) rfl
theorem q1211 : (Jvm.Cond.instantiable "PumpCrossing$Fact" (1 : Nat)) ∈ lw_all := lw_g (lw_at lw_m5 155 rfl) rfl
theorem q1213 : (Jvm.Cond.instanceMethod ({ cls := "PumpCrossing$Fact", name := "<init>", desc := "(I)V" } : Jvm.MethodName)) ∈ lw_all := lw_g (lw_at lw_m5 157 rfl) rfl
theorem q1214 : (Jvm.Cond.code ({ cls := "PumpCrossing$Fact", name := "<init>", desc := "(I)V" } : Jvm.MethodName) prog_8_method_1_code (2 : Nat) (Option.none : Option Jvm.ClassFile.FieldType)) ∈ lw_all := lw_g (lw_at lw_m5 158 rfl) rfl
theorem q1215 : (Jvm.Cond.methodLink "PumpCrossing$Fact" (1 : Nat) ({ cls := "java/lang/Object", name := "<init>", desc := "()V" } : Jvm.MethodName)) ∈ lw_all := lw_g (lw_at lw_m5 159 rfl) rfl
theorem q1216 : (Jvm.Cond.fieldLink "PumpCrossing$Fact" (7 : Nat) "PumpCrossing$Fact" "k" "I") ∈ lw_all := lw_g (lw_at lw_m5 160 rfl) rfl
theorem q1217 : (Jvm.Cond.laysFinal "PumpCrossing$Fact" "PumpCrossing$Fact" "k" "I") ∈ lw_all := lw_g (lw_at lw_m5 161 rfl) rfl
theorem q1218 : (Jvm.Cond.soleField "PumpCrossing$Fact" "k") ∈ lw_all := lw_g (lw_at lw_m5 162 rfl) rfl
theorem q1219 : (Jvm.Cond.superclass "PumpCrossing$Fact" "java/lang/Object") ∈ lw_all := lw_g (lw_at lw_m5 163 rfl) rfl
theorem q1353 : (Jvm.Cond.castable "PumpCrossing$Fact" "PumpCrossing$Term") ∈ lw_tbl := lw_at lw_m6 57 rfl
theorem q1354 : (Jvm.Cond.selects "PumpCrossing$Fact" ({ cls := "PumpCrossing$Term", name := "of", desc := "([I)I" } : Jvm.MethodName) ({ cls := "PumpCrossing$Fact", name := "of", desc := "([I)I" } : Jvm.MethodName)) ∈ lw_all := lw_g (lw_at lw_m6 58 rfl) rfl
theorem q1355 : (Jvm.Cond.unhidden "PumpCrossing$Fact" "of" "([I)I") ∈ lw_tbl := lw_at lw_m6 59 rfl
theorem q1356 : (Jvm.Cond.instanceMethod ({ cls := "PumpCrossing$Fact", name := "of", desc := "([I)I" } : Jvm.MethodName)) ∈ lw_all := lw_g (lw_at lw_m6 60 rfl) rfl
theorem q1357 : (Jvm.Cond.publicMethod ({ cls := "PumpCrossing$Fact", name := "of", desc := "([I)I" } : Jvm.MethodName)) ∈ lw_tbl := lw_at lw_m6 61 rfl
theorem q1358 : (Jvm.Cond.code ({ cls := "PumpCrossing$Fact", name := "of", desc := "([I)I" } : Jvm.MethodName) prog_8_method_2_code (2 : Nat) (Option.some Jvm.ClassFile.FieldType.int)) ∈ lw_all := lw_g (lw_at lw_m6 62 rfl) rfl
theorem q2435 : (Jvm.Cond.castable "PumpCrossing$Fact" "java/lang/Object") ∈ lw_tbl := lw_at lw_m10 179 rfl
theorem in_X24 : ∀ w ∈ wsX240, w ∈ lw_all := lw_in wsX240 [1217] (by decide +kernel) (by decide +kernel)
/-! PumpCrossing$Two -/
set_option maxRecDepth 100000
def RX25 : String := "PumpCrossing$Two"
def TX25 : u_T := fun k => match k with
  | 0 => ("PumpCrossing$Two", "sign", "C", true)
  | 1 => ("PumpCrossing$Two", "a", "LPumpCrossing$Term;", true)
  | _ => ("PumpCrossing$Two", "b", "LPumpCrossing$Term;", true)
def tyX25 : Nat → FieldType := fun k => match k with
  | 0 => .char
  | 1 => .object "PumpCrossing$Term"
  | _ => .object "PumpCrossing$Term"
abbrev wsX250 : List Cond := u_ws RX25 TX25 3
theorem nmX25 : ∀ a, a < 3 → ∀ b, b < 3 → a ≠ b → (TX25 a).2.1 ≠ (TX25 b).2.1 := by decide +kernel
theorem tyX25_ok : ∀ k, k < 3 → parseFieldDescriptor (TX25 k).2.2.1 = some (tyX25 k) := by decide +kernel
abbrev cX25_init : ByteArray := prog_26_method_1_code
def yX25_init : MethodName := ⟨RX25, "<init>", "(CLPumpCrossing$Term;LPumpCrossing$Term;)V"⟩
def dkwX25_init_0 : List UInt8 := [42, 183, 0, 1, 42, 27, 181, 0, 7, 42, 44, 181, 0, 13, 42, 45, 181, 0, 17, 177]
abbrev dktX25_init_0 : List UInt8 := dkwX25_init_0 ++ []
theorem dksX25_init_0 : cX25_init.data.toList.drop 0 = dktX25_init_0 := by decide +kernel
theorem dX25_init_0 : decode cX25_init 0 = .ok (.aload_n 0, 1) := dk_42 (dk_at dksX25_init_0 0 rfl rfl)
theorem dX25_init_1 : decode cX25_init 1 = .ok (.invokespecial 1, 3) := dk_183 0 1 (dk_at dksX25_init_0 1 rfl rfl)
theorem dX25_init_4 : decode cX25_init 4 = .ok (.aload_n 0, 1) := dk_42 (dk_at dksX25_init_0 4 rfl rfl)
theorem dX25_init_5 : decode cX25_init 5 = .ok (.iload_n 1, 1) := dk_27 (dk_at dksX25_init_0 5 rfl rfl)
theorem dX25_init_6 : decode cX25_init 6 = .ok (.putfield 7, 3) := dk_181 0 7 (dk_at dksX25_init_0 6 rfl rfl)
theorem dX25_init_9 : decode cX25_init 9 = .ok (.aload_n 0, 1) := dk_42 (dk_at dksX25_init_0 9 rfl rfl)
theorem dX25_init_10 : decode cX25_init 10 = .ok (.aload_n 2, 1) := dk_44 (dk_at dksX25_init_0 10 rfl rfl)
theorem dX25_init_11 : decode cX25_init 11 = .ok (.putfield 13, 3) := dk_181 0 13 (dk_at dksX25_init_0 11 rfl rfl)
theorem dX25_init_14 : decode cX25_init 14 = .ok (.aload_n 0, 1) := dk_42 (dk_at dksX25_init_0 14 rfl rfl)
theorem dX25_init_15 : decode cX25_init 15 = .ok (.aload_n 3, 1) := dk_45 (dk_at dksX25_init_0 15 rfl rfl)
theorem dX25_init_16 : decode cX25_init 16 = .ok (.putfield 17, 3) := dk_181 0 17 (dk_at dksX25_init_0 16 rfl rfl)
theorem dX25_init_19 : decode cX25_init 19 = .ok (.return_, 1) := dk_177 (dk_at dksX25_init_0 19 rfl rfl)
abbrev cX25_of : ByteArray := prog_26_method_3_code
def yX25_of : MethodName := ⟨RX25, "of", "([I)I"⟩
def dkwX25_of_5 : List UInt8 := [184, 0, 26, 172, 28, 29, 126, 172, 28, 29, 128, 172]
abbrev dktX25_of_5 : List UInt8 := dkwX25_of_5 ++ []
def dkwX25_of_4 : List UInt8 := [160, 0, 7, 4, 167, 0, 4, 3, 184, 0, 26, 172, 28, 29, 164, 0, 7, 4, 167, 0, 4, 3]
abbrev dktX25_of_4 : List UInt8 := dkwX25_of_4 ++ dktX25_of_5
def dkwX25_of_3 : List UInt8 := [28, 29, 96, 172, 28, 29, 100, 172, 28, 29, 162, 0, 7, 4, 167, 0, 4, 3, 184, 0, 26, 172, 28, 29]
abbrev dktX25_of_3 : List UInt8 := dkwX25_of_3 ++ dktX25_of_4
def dkwX25_of_2 : List UInt8 := [171, 0, 0, 0, 0, 112, 0, 0, 0, 6, 0, 0, 0, 38, 0, 0, 0, 108, 0, 0, 0, 43, 0, 0, 0, 58, 0, 0, 0, 45, 0, 0, 0, 62, 0, 0, 0, 60, 0, 0, 0, 66, 0, 0, 0, 61, 0, 0, 0, 80, 0, 0, 0, 62, 0, 0, 0, 94]
abbrev dktX25_of_2 : List UInt8 := dkwX25_of_2 ++ dktX25_of_3
def dkwX25_of_1 : List UInt8 := [180, 0, 7]
abbrev dktX25_of_1 : List UInt8 := dkwX25_of_1 ++ dktX25_of_2
def dkwX25_of_0 : List UInt8 := [42, 180, 0, 13, 43, 185, 0, 20, 2, 0, 61, 42, 180, 0, 17, 43, 185, 0, 20, 2, 0, 62, 42]
abbrev dktX25_of_0 : List UInt8 := dkwX25_of_0 ++ dktX25_of_1
theorem dksX25_of_0 : cX25_of.data.toList.drop 0 = dktX25_of_0 := by decide +kernel
theorem dksX25_of_1 : cX25_of.data.toList.drop 23 = dktX25_of_1 := dk_seg dksX25_of_0 23 rfl rfl
theorem dksX25_of_2 : cX25_of.data.toList.drop 26 = dktX25_of_2 := dk_seg dksX25_of_1 3 rfl rfl
theorem dksX25_of_3 : cX25_of.data.toList.drop 84 = dktX25_of_3 := dk_seg dksX25_of_2 58 rfl rfl
theorem dksX25_of_4 : cX25_of.data.toList.drop 108 = dktX25_of_4 := dk_seg dksX25_of_3 24 rfl rfl
theorem dksX25_of_5 : cX25_of.data.toList.drop 130 = dktX25_of_5 := dk_seg dksX25_of_4 22 rfl rfl
theorem dX25_of_0 : decode cX25_of 0 = .ok (.aload_n 0, 1) := dk_42 (dk_at dksX25_of_0 0 rfl rfl)
theorem dX25_of_1 : decode cX25_of 1 = .ok (.getfield 13, 3) := dk_180 0 13 (dk_at dksX25_of_0 1 rfl rfl)
theorem dX25_of_4 : decode cX25_of 4 = .ok (.aload_n 1, 1) := dk_43 (dk_at dksX25_of_0 4 rfl rfl)
theorem dX25_of_5 : decode cX25_of 5 = .ok (.invokeinterface 20 2, 5) := by decide +kernel
theorem dX25_of_10 : decode cX25_of 10 = .ok (.istore_n 2, 1) := dk_61 (dk_at dksX25_of_0 10 rfl rfl)
theorem dX25_of_11 : decode cX25_of 11 = .ok (.aload_n 0, 1) := dk_42 (dk_at dksX25_of_0 11 rfl rfl)
theorem dX25_of_12 : decode cX25_of 12 = .ok (.getfield 17, 3) := dk_180 0 17 (dk_at dksX25_of_0 12 rfl rfl)
theorem dX25_of_15 : decode cX25_of 15 = .ok (.aload_n 1, 1) := dk_43 (dk_at dksX25_of_0 15 rfl rfl)
theorem dX25_of_16 : decode cX25_of 16 = .ok (.invokeinterface 20 2, 5) := by decide +kernel
theorem dX25_of_21 : decode cX25_of 21 = .ok (.istore_n 3, 1) := dk_62 (dk_at dksX25_of_0 21 rfl rfl)
theorem dX25_of_22 : decode cX25_of 22 = .ok (.aload_n 0, 1) := dk_42 (dk_at dksX25_of_0 22 rfl rfl)
theorem dX25_of_23 : decode cX25_of 23 = .ok (.getfield 7, 3) := dk_180 0 7 (dk_at dksX25_of_1 0 rfl rfl)
theorem dX25_of_26 : decode cX25_of 26 = .ok (.lookupswitch 112 #[(38, 108), (43, 58), (45, 62), (60, 66), (61, 80), (62, 94)], 58) := by decide +kernel
theorem dX25_of_84 : decode cX25_of 84 = .ok (.iload_n 2, 1) := dk_28 (dk_at dksX25_of_3 0 rfl rfl)
theorem dX25_of_85 : decode cX25_of 85 = .ok (.iload_n 3, 1) := dk_29 (dk_at dksX25_of_3 1 rfl rfl)
theorem dX25_of_86 : decode cX25_of 86 = .ok (.iadd, 1) := dk_96 (dk_at dksX25_of_3 2 rfl rfl)
theorem dX25_of_87 : decode cX25_of 87 = .ok (.ireturn, 1) := dk_172 (dk_at dksX25_of_3 3 rfl rfl)
theorem dX25_of_88 : decode cX25_of 88 = .ok (.iload_n 2, 1) := dk_28 (dk_at dksX25_of_3 4 rfl rfl)
theorem dX25_of_89 : decode cX25_of 89 = .ok (.iload_n 3, 1) := dk_29 (dk_at dksX25_of_3 5 rfl rfl)
theorem dX25_of_90 : decode cX25_of 90 = .ok (.isub, 1) := dk_100 (dk_at dksX25_of_3 6 rfl rfl)
theorem dX25_of_91 : decode cX25_of 91 = .ok (.ireturn, 1) := dk_172 (dk_at dksX25_of_3 7 rfl rfl)
theorem dX25_of_92 : decode cX25_of 92 = .ok (.iload_n 2, 1) := dk_28 (dk_at dksX25_of_3 8 rfl rfl)
theorem dX25_of_93 : decode cX25_of 93 = .ok (.iload_n 3, 1) := dk_29 (dk_at dksX25_of_3 9 rfl rfl)
theorem dX25_of_94 : decode cX25_of 94 = .ok (.if_icmp .ge 7, 3) := dk_162 0 7 (dk_at dksX25_of_3 10 rfl rfl)
theorem dX25_of_97 : decode cX25_of 97 = .ok (.iconst 1, 1) := dk_4 (dk_at dksX25_of_3 13 rfl rfl)
theorem dX25_of_98 : decode cX25_of 98 = .ok (.goto 4, 3) := dk_167 0 4 (dk_at dksX25_of_3 14 rfl rfl)
theorem dX25_of_101 : decode cX25_of 101 = .ok (.iconst 0, 1) := dk_3 (dk_at dksX25_of_3 17 rfl rfl)
theorem dX25_of_102 : decode cX25_of 102 = .ok (.invokestatic 26, 3) := dk_184 0 26 (dk_at dksX25_of_3 18 rfl rfl)
theorem dX25_of_105 : decode cX25_of 105 = .ok (.ireturn, 1) := dk_172 (dk_at dksX25_of_3 21 rfl rfl)
theorem dX25_of_106 : decode cX25_of 106 = .ok (.iload_n 2, 1) := dk_28 (dk_at dksX25_of_3 22 rfl rfl)
theorem dX25_of_107 : decode cX25_of 107 = .ok (.iload_n 3, 1) := dk_29 (dk_at dksX25_of_3 23 rfl rfl)
theorem dX25_of_108 : decode cX25_of 108 = .ok (.if_icmp .ne 7, 3) := dk_160 0 7 (dk_at dksX25_of_4 0 rfl rfl)
theorem dX25_of_111 : decode cX25_of 111 = .ok (.iconst 1, 1) := dk_4 (dk_at dksX25_of_4 3 rfl rfl)
theorem dX25_of_112 : decode cX25_of 112 = .ok (.goto 4, 3) := dk_167 0 4 (dk_at dksX25_of_4 4 rfl rfl)
theorem dX25_of_115 : decode cX25_of 115 = .ok (.iconst 0, 1) := dk_3 (dk_at dksX25_of_4 7 rfl rfl)
theorem dX25_of_116 : decode cX25_of 116 = .ok (.invokestatic 26, 3) := dk_184 0 26 (dk_at dksX25_of_4 8 rfl rfl)
theorem dX25_of_119 : decode cX25_of 119 = .ok (.ireturn, 1) := dk_172 (dk_at dksX25_of_4 11 rfl rfl)
theorem dX25_of_120 : decode cX25_of 120 = .ok (.iload_n 2, 1) := dk_28 (dk_at dksX25_of_4 12 rfl rfl)
theorem dX25_of_121 : decode cX25_of 121 = .ok (.iload_n 3, 1) := dk_29 (dk_at dksX25_of_4 13 rfl rfl)
theorem dX25_of_122 : decode cX25_of 122 = .ok (.if_icmp .le 7, 3) := dk_164 0 7 (dk_at dksX25_of_4 14 rfl rfl)
theorem dX25_of_125 : decode cX25_of 125 = .ok (.iconst 1, 1) := dk_4 (dk_at dksX25_of_4 17 rfl rfl)
theorem dX25_of_126 : decode cX25_of 126 = .ok (.goto 4, 3) := dk_167 0 4 (dk_at dksX25_of_4 18 rfl rfl)
theorem dX25_of_129 : decode cX25_of 129 = .ok (.iconst 0, 1) := dk_3 (dk_at dksX25_of_4 21 rfl rfl)
theorem dX25_of_130 : decode cX25_of 130 = .ok (.invokestatic 26, 3) := dk_184 0 26 (dk_at dksX25_of_5 0 rfl rfl)
theorem dX25_of_133 : decode cX25_of 133 = .ok (.ireturn, 1) := dk_172 (dk_at dksX25_of_5 3 rfl rfl)
theorem dX25_of_134 : decode cX25_of 134 = .ok (.iload_n 2, 1) := dk_28 (dk_at dksX25_of_5 4 rfl rfl)
theorem dX25_of_135 : decode cX25_of 135 = .ok (.iload_n 3, 1) := dk_29 (dk_at dksX25_of_5 5 rfl rfl)
theorem dX25_of_136 : decode cX25_of 136 = .ok (.iand, 1) := dk_126 (dk_at dksX25_of_5 6 rfl rfl)
theorem dX25_of_137 : decode cX25_of 137 = .ok (.ireturn, 1) := dk_172 (dk_at dksX25_of_5 7 rfl rfl)
theorem dX25_of_138 : decode cX25_of 138 = .ok (.iload_n 2, 1) := dk_28 (dk_at dksX25_of_5 8 rfl rfl)
theorem dX25_of_139 : decode cX25_of 139 = .ok (.iload_n 3, 1) := dk_29 (dk_at dksX25_of_5 9 rfl rfl)
theorem dX25_of_140 : decode cX25_of 140 = .ok (.ior, 1) := dk_128 (dk_at dksX25_of_5 10 rfl rfl)
theorem dX25_of_141 : decode cX25_of 141 = .ok (.ireturn, 1) := dk_172 (dk_at dksX25_of_5 11 rfl rfl)
abbrev cX25_bit : ByteArray := prog_26_method_2_code
def yX25_bit : MethodName := ⟨RX25, "bit", "(Z)I"⟩
def dkwX25_bit_0 : List UInt8 := [26, 153, 0, 7, 4, 167, 0, 4, 3, 172]
abbrev dktX25_bit_0 : List UInt8 := dkwX25_bit_0 ++ []
theorem dksX25_bit_0 : cX25_bit.data.toList.drop 0 = dktX25_bit_0 := by decide +kernel
theorem dX25_bit_0 : decode cX25_bit 0 = .ok (.iload_n 0, 1) := dk_26 (dk_at dksX25_bit_0 0 rfl rfl)
theorem dX25_bit_1 : decode cX25_bit 1 = .ok (.ifCond .eq 7, 3) := dk_153 0 7 (dk_at dksX25_bit_0 1 rfl rfl)
theorem dX25_bit_4 : decode cX25_bit 4 = .ok (.iconst 1, 1) := dk_4 (dk_at dksX25_bit_0 4 rfl rfl)
theorem dX25_bit_5 : decode cX25_bit 5 = .ok (.goto 4, 3) := dk_167 0 4 (dk_at dksX25_bit_0 5 rfl rfl)
theorem dX25_bit_8 : decode cX25_bit 8 = .ok (.iconst 0, 1) := dk_3 (dk_at dksX25_bit_0 8 rfl rfl)
theorem dX25_bit_9 : decode cX25_bit 9 = .ok (.ireturn, 1) := dk_172 (dk_at dksX25_bit_0 9 rfl rfl)
theorem q140 : (Jvm.Cond.initialized "PumpCrossing$Two") ∈ lw_all := lw_g (lw_at lw_m1 44 rfl) rfl
theorem q698 : (Jvm.Cond.selects "PumpCrossing$Two" ({ cls := "java/lang/Object", name := "getClass", desc := "()Ljava/lang/Class;" } : Jvm.MethodName) ({ cls := "java/lang/Object", name := "getClass", desc := "()Ljava/lang/Class;" } : Jvm.MethodName)) ∈ lw_all := lw_g (lw_at lw_m3 122 rfl) rfl
theorem q1227 : (Jvm.Cond.instantiable "PumpCrossing$Two" (3 : Nat)) ∈ lw_all := lw_g (lw_at lw_m5 171 rfl) rfl
theorem q1229 : (Jvm.Cond.instanceMethod ({ cls := "PumpCrossing$Two", name := "<init>", desc := "(CLPumpCrossing$Term;LPumpCrossing$Term;)V" } : Jvm.MethodName)) ∈ lw_all := lw_g (lw_at lw_m5 173 rfl) rfl
theorem q1230 : (Jvm.Cond.code ({ cls := "PumpCrossing$Two", name := "<init>", desc := "(CLPumpCrossing$Term;LPumpCrossing$Term;)V" } : Jvm.MethodName) prog_26_method_1_code (4 : Nat) (Option.none : Option Jvm.ClassFile.FieldType)) ∈ lw_all := lw_g (lw_at lw_m5 174 rfl) rfl
theorem q1231 : (Jvm.Cond.methodLink "PumpCrossing$Two" (1 : Nat) ({ cls := "java/lang/Object", name := "<init>", desc := "()V" } : Jvm.MethodName)) ∈ lw_all := lw_g (lw_at lw_m5 175 rfl) rfl
theorem q1232 : (Jvm.Cond.fieldLink "PumpCrossing$Two" (7 : Nat) "PumpCrossing$Two" "sign" "C") ∈ lw_all := lw_g (lw_at lw_m5 176 rfl) rfl
theorem q1233 : (Jvm.Cond.fieldLink "PumpCrossing$Two" (13 : Nat) "PumpCrossing$Two" "a" "LPumpCrossing$Term;") ∈ lw_all := lw_g (lw_at lw_m5 177 rfl) rfl
theorem q1234 : (Jvm.Cond.fieldLink "PumpCrossing$Two" (17 : Nat) "PumpCrossing$Two" "b" "LPumpCrossing$Term;") ∈ lw_all := lw_g (lw_at lw_m5 178 rfl) rfl
theorem q1235 : (Jvm.Cond.laysFinal "PumpCrossing$Two" "PumpCrossing$Two" "sign" "C") ∈ lw_all := lw_g (lw_at lw_m5 179 rfl) rfl
theorem q1236 : (Jvm.Cond.soleField "PumpCrossing$Two" "sign") ∈ lw_all := lw_g (lw_at lw_m5 180 rfl) rfl
theorem q1237 : (Jvm.Cond.laysFinal "PumpCrossing$Two" "PumpCrossing$Two" "a" "LPumpCrossing$Term;") ∈ lw_all := lw_g (lw_at lw_m5 181 rfl) rfl
theorem q1238 : (Jvm.Cond.soleField "PumpCrossing$Two" "a") ∈ lw_all := lw_g (lw_at lw_m5 182 rfl) rfl
theorem q1239 : (Jvm.Cond.laysFinal "PumpCrossing$Two" "PumpCrossing$Two" "b" "LPumpCrossing$Term;") ∈ lw_all := lw_g (lw_at lw_m5 183 rfl) rfl
theorem q1240 : (Jvm.Cond.soleField "PumpCrossing$Two" "b") ∈ lw_all := lw_g (lw_at lw_m5 184 rfl) rfl
theorem q1241 : (Jvm.Cond.superclass "PumpCrossing$Two" "java/lang/Object") ∈ lw_all := lw_g (lw_at lw_m5 185 rfl) rfl
theorem q1373 : (Jvm.Cond.castable "PumpCrossing$Two" "PumpCrossing$Term") ∈ lw_tbl := lw_at lw_m6 77 rfl
theorem q1374 : (Jvm.Cond.selects "PumpCrossing$Two" ({ cls := "PumpCrossing$Term", name := "of", desc := "([I)I" } : Jvm.MethodName) ({ cls := "PumpCrossing$Two", name := "of", desc := "([I)I" } : Jvm.MethodName)) ∈ lw_all := lw_g (lw_at lw_m6 78 rfl) rfl
theorem q1375 : (Jvm.Cond.unhidden "PumpCrossing$Two" "of" "([I)I") ∈ lw_tbl := lw_at lw_m6 79 rfl
theorem q1376 : (Jvm.Cond.instanceMethod ({ cls := "PumpCrossing$Two", name := "of", desc := "([I)I" } : Jvm.MethodName)) ∈ lw_all := lw_g (lw_at lw_m6 80 rfl) rfl
theorem q1377 : (Jvm.Cond.publicMethod ({ cls := "PumpCrossing$Two", name := "of", desc := "([I)I" } : Jvm.MethodName)) ∈ lw_tbl := lw_at lw_m6 81 rfl
theorem q1378 : (Jvm.Cond.code ({ cls := "PumpCrossing$Two", name := "of", desc := "([I)I" } : Jvm.MethodName) prog_26_method_3_code (4 : Nat) (Option.some Jvm.ClassFile.FieldType.int)) ∈ lw_all := lw_g (lw_at lw_m6 82 rfl) rfl
theorem q1379 : (Jvm.Cond.interfaceEntry "PumpCrossing$Two" (20 : Nat)) ∈ lw_tbl := lw_at lw_m6 83 rfl
theorem q1380 : (Jvm.Cond.methodLink "PumpCrossing$Two" (20 : Nat) ({ cls := "PumpCrossing$Term", name := "of", desc := "([I)I" } : Jvm.MethodName)) ∈ lw_all := lw_g (lw_at lw_m6 84 rfl) rfl
theorem q1381 : (Jvm.Cond.methodLink "PumpCrossing$Two" (26 : Nat) ({ cls := "PumpCrossing$Two", name := "bit", desc := "(Z)I" } : Jvm.MethodName)) ∈ lw_all := lw_g (lw_at lw_m6 85 rfl) rfl
theorem q1382 : (Jvm.Cond.static ({ cls := "PumpCrossing$Two", name := "bit", desc := "(Z)I" } : Jvm.MethodName)) ∈ lw_all := lw_g (lw_at lw_m6 86 rfl) rfl
theorem q1383 : (Jvm.Cond.code ({ cls := "PumpCrossing$Two", name := "bit", desc := "(Z)I" } : Jvm.MethodName) prog_26_method_2_code (1 : Nat) (Option.some Jvm.ClassFile.FieldType.int)) ∈ lw_all := lw_g (lw_at lw_m6 87 rfl) rfl
theorem q2436 : (Jvm.Cond.castable "PumpCrossing$Two" "java/lang/Object") ∈ lw_tbl := lw_at lw_m10 180 rfl
theorem in_X25 : ∀ w ∈ wsX250, w ∈ lw_all := lw_in wsX250 [1235, 1237, 1239] (by decide +kernel) (by decide +kernel)
/-! PumpCrossing$LawReader -/
set_option maxRecDepth 100000
def RX26 : String := "PumpCrossing$LawReader"
def TX26 : u_T := fun k => match k with
  | 0 => ("PumpCrossing$Reader", "tape", "[B", true)
  | 1 => ("PumpCrossing$Reader", "size", "I", true)
  | 2 => ("PumpCrossing$Reader", "at", "I", false)
  | 3 => ("PumpCrossing$Reader", "behind", "I", false)
  | 4 => ("PumpCrossing$Reader", "sort", "I", false)
  | 5 => ("PumpCrossing$Reader", "number", "I", false)
  | _ => ("PumpCrossing$LawReader", "made", "LPumpCrossing$Law;", true)
def tyX26 : Nat → FieldType := fun k => match k with
  | 0 => .array .byte
  | 1 => .int
  | 2 => .int
  | 3 => .int
  | 4 => .int
  | 5 => .int
  | _ => .object "PumpCrossing$Law"
abbrev wsX260 : List Cond := u_ws RX26 TX26 7
theorem nmX26 : ∀ a, a < 7 → ∀ b, b < 7 → a ≠ b → (TX26 a).2.1 ≠ (TX26 b).2.1 := by decide +kernel
theorem tyX26_ok : ∀ k, k < 7 → parseFieldDescriptor (TX26 k).2.2.1 = some (tyX26 k) := by decide +kernel
abbrev cX26_line : ByteArray := prog_11_method_2_code
def yX26_line : MethodName := ⟨RX26, "line", "()V"⟩
def dkwX26_line_5 : List UInt8 := [180, 0, 14, 4, 181, 0, 49, 167, 0, 8, 42, 182, 0, 52, 191, 177]
abbrev dktX26_line_5 : List UInt8 := dkwX26_line_5 ++ []
def dkwX26_line_4 : List UInt8 := [153, 0, 14, 42, 180, 0, 14, 4, 181, 0, 43, 167, 0, 28, 42, 18, 47, 182, 0, 22, 153, 0, 14, 42]
abbrev dktX26_line_4 : List UInt8 := dkwX26_line_4 ++ dktX26_line_5
def dkwX26_line_3 : List UInt8 := [180, 0, 14, 42, 3, 16, 99, 182, 0, 26, 181, 0, 39, 167, 0, 48, 42, 18, 41, 182, 0, 22]
abbrev dktX26_line_3 : List UInt8 := dkwX26_line_3 ++ dktX26_line_4
def dkwX26_line_2 : List UInt8 := [16, 23, 182, 0, 26, 120, 128, 181, 0, 35, 167, 0, 74, 42, 18, 37, 182, 0, 22, 153, 0, 20, 42]
abbrev dktX26_line_2 : List UInt8 := dkwX26_line_2 ++ dktX26_line_3
def dkwX26_line_1 : List UInt8 := [167, 0, 107, 42, 18, 33, 182, 0, 22, 153, 0, 27, 42, 180, 0, 14, 89, 180, 0, 35, 4, 42, 3]
abbrev dktX26_line_1 : List UInt8 := dkwX26_line_1 ++ dktX26_line_2
def dkwX26_line_0 : List UInt8 := [42, 18, 20, 182, 0, 22, 153, 0, 20, 42, 180, 0, 14, 42, 4, 16, 99, 182, 0, 26, 181, 0, 30]
abbrev dktX26_line_0 : List UInt8 := dkwX26_line_0 ++ dktX26_line_1
theorem dksX26_line_0 : cX26_line.data.toList.drop 0 = dktX26_line_0 := by decide +kernel
theorem dksX26_line_1 : cX26_line.data.toList.drop 23 = dktX26_line_1 := dk_seg dksX26_line_0 23 rfl rfl
theorem dksX26_line_2 : cX26_line.data.toList.drop 46 = dktX26_line_2 := dk_seg dksX26_line_1 23 rfl rfl
theorem dksX26_line_3 : cX26_line.data.toList.drop 69 = dktX26_line_3 := dk_seg dksX26_line_2 23 rfl rfl
theorem dksX26_line_4 : cX26_line.data.toList.drop 91 = dktX26_line_4 := dk_seg dksX26_line_3 22 rfl rfl
theorem dksX26_line_5 : cX26_line.data.toList.drop 115 = dktX26_line_5 := dk_seg dksX26_line_4 24 rfl rfl
theorem dX26_line_0 : decode cX26_line 0 = .ok (.aload_n 0, 1) := dk_42 (dk_at dksX26_line_0 0 rfl rfl)
theorem dX26_line_1 : decode cX26_line 1 = .ok (.ldc 20, 2) := dk_18 20 (dk_at dksX26_line_0 1 rfl rfl)
theorem dX26_line_3 : decode cX26_line 3 = .ok (.invokevirtual 22, 3) := dk_182 0 22 (dk_at dksX26_line_0 3 rfl rfl)
theorem dX26_line_6 : decode cX26_line 6 = .ok (.ifCond .eq 20, 3) := dk_153 0 20 (dk_at dksX26_line_0 6 rfl rfl)
theorem dX26_line_9 : decode cX26_line 9 = .ok (.aload_n 0, 1) := dk_42 (dk_at dksX26_line_0 9 rfl rfl)
theorem dX26_line_10 : decode cX26_line 10 = .ok (.getfield 14, 3) := dk_180 0 14 (dk_at dksX26_line_0 10 rfl rfl)
theorem dX26_line_13 : decode cX26_line 13 = .ok (.aload_n 0, 1) := dk_42 (dk_at dksX26_line_0 13 rfl rfl)
theorem dX26_line_14 : decode cX26_line 14 = .ok (.iconst 1, 1) := dk_4 (dk_at dksX26_line_0 14 rfl rfl)
theorem dX26_line_15 : decode cX26_line 15 = .ok (.bipush 99, 2) := dk_16 99 (dk_at dksX26_line_0 15 rfl rfl)
theorem dX26_line_17 : decode cX26_line 17 = .ok (.invokevirtual 26, 3) := dk_182 0 26 (dk_at dksX26_line_0 17 rfl rfl)
theorem dX26_line_20 : decode cX26_line 20 = .ok (.putfield 30, 3) := dk_181 0 30 (dk_at dksX26_line_0 20 rfl rfl)
theorem dX26_line_23 : decode cX26_line 23 = .ok (.goto 107, 3) := dk_167 0 107 (dk_at dksX26_line_1 0 rfl rfl)
theorem dX26_line_26 : decode cX26_line 26 = .ok (.aload_n 0, 1) := dk_42 (dk_at dksX26_line_1 3 rfl rfl)
theorem dX26_line_27 : decode cX26_line 27 = .ok (.ldc 33, 2) := dk_18 33 (dk_at dksX26_line_1 4 rfl rfl)
theorem dX26_line_29 : decode cX26_line 29 = .ok (.invokevirtual 22, 3) := dk_182 0 22 (dk_at dksX26_line_1 6 rfl rfl)
theorem dX26_line_32 : decode cX26_line 32 = .ok (.ifCond .eq 27, 3) := dk_153 0 27 (dk_at dksX26_line_1 9 rfl rfl)
theorem dX26_line_35 : decode cX26_line 35 = .ok (.aload_n 0, 1) := dk_42 (dk_at dksX26_line_1 12 rfl rfl)
theorem dX26_line_36 : decode cX26_line 36 = .ok (.getfield 14, 3) := dk_180 0 14 (dk_at dksX26_line_1 13 rfl rfl)
theorem dX26_line_39 : decode cX26_line 39 = .ok (.dup, 1) := dk_89 (dk_at dksX26_line_1 16 rfl rfl)
theorem dX26_line_40 : decode cX26_line 40 = .ok (.getfield 35, 3) := dk_180 0 35 (dk_at dksX26_line_1 17 rfl rfl)
theorem dX26_line_43 : decode cX26_line 43 = .ok (.iconst 1, 1) := dk_4 (dk_at dksX26_line_1 20 rfl rfl)
theorem dX26_line_44 : decode cX26_line 44 = .ok (.aload_n 0, 1) := dk_42 (dk_at dksX26_line_1 21 rfl rfl)
theorem dX26_line_45 : decode cX26_line 45 = .ok (.iconst 0, 1) := dk_3 (dk_at dksX26_line_1 22 rfl rfl)
theorem dX26_line_46 : decode cX26_line 46 = .ok (.bipush 23, 2) := dk_16 23 (dk_at dksX26_line_2 0 rfl rfl)
theorem dX26_line_48 : decode cX26_line 48 = .ok (.invokevirtual 26, 3) := dk_182 0 26 (dk_at dksX26_line_2 2 rfl rfl)
theorem dX26_line_51 : decode cX26_line 51 = .ok (.ishl, 1) := dk_120 (dk_at dksX26_line_2 5 rfl rfl)
theorem dX26_line_52 : decode cX26_line 52 = .ok (.ior, 1) := dk_128 (dk_at dksX26_line_2 6 rfl rfl)
theorem dX26_line_53 : decode cX26_line 53 = .ok (.putfield 35, 3) := dk_181 0 35 (dk_at dksX26_line_2 7 rfl rfl)
theorem dX26_line_56 : decode cX26_line 56 = .ok (.goto 74, 3) := dk_167 0 74 (dk_at dksX26_line_2 10 rfl rfl)
theorem dX26_line_59 : decode cX26_line 59 = .ok (.aload_n 0, 1) := dk_42 (dk_at dksX26_line_2 13 rfl rfl)
theorem dX26_line_60 : decode cX26_line 60 = .ok (.ldc 37, 2) := dk_18 37 (dk_at dksX26_line_2 14 rfl rfl)
theorem dX26_line_62 : decode cX26_line 62 = .ok (.invokevirtual 22, 3) := dk_182 0 22 (dk_at dksX26_line_2 16 rfl rfl)
theorem dX26_line_65 : decode cX26_line 65 = .ok (.ifCond .eq 20, 3) := dk_153 0 20 (dk_at dksX26_line_2 19 rfl rfl)
theorem dX26_line_68 : decode cX26_line 68 = .ok (.aload_n 0, 1) := dk_42 (dk_at dksX26_line_2 22 rfl rfl)
theorem dX26_line_69 : decode cX26_line 69 = .ok (.getfield 14, 3) := dk_180 0 14 (dk_at dksX26_line_3 0 rfl rfl)
theorem dX26_line_72 : decode cX26_line 72 = .ok (.aload_n 0, 1) := dk_42 (dk_at dksX26_line_3 3 rfl rfl)
theorem dX26_line_73 : decode cX26_line 73 = .ok (.iconst 0, 1) := dk_3 (dk_at dksX26_line_3 4 rfl rfl)
theorem dX26_line_74 : decode cX26_line 74 = .ok (.bipush 99, 2) := dk_16 99 (dk_at dksX26_line_3 5 rfl rfl)
theorem dX26_line_76 : decode cX26_line 76 = .ok (.invokevirtual 26, 3) := dk_182 0 26 (dk_at dksX26_line_3 7 rfl rfl)
theorem dX26_line_79 : decode cX26_line 79 = .ok (.putfield 39, 3) := dk_181 0 39 (dk_at dksX26_line_3 10 rfl rfl)
theorem dX26_line_82 : decode cX26_line 82 = .ok (.goto 48, 3) := dk_167 0 48 (dk_at dksX26_line_3 13 rfl rfl)
theorem dX26_line_85 : decode cX26_line 85 = .ok (.aload_n 0, 1) := dk_42 (dk_at dksX26_line_3 16 rfl rfl)
theorem dX26_line_86 : decode cX26_line 86 = .ok (.ldc 41, 2) := dk_18 41 (dk_at dksX26_line_3 17 rfl rfl)
theorem dX26_line_88 : decode cX26_line 88 = .ok (.invokevirtual 22, 3) := dk_182 0 22 (dk_at dksX26_line_3 19 rfl rfl)
theorem dX26_line_91 : decode cX26_line 91 = .ok (.ifCond .eq 14, 3) := dk_153 0 14 (dk_at dksX26_line_4 0 rfl rfl)
theorem dX26_line_94 : decode cX26_line 94 = .ok (.aload_n 0, 1) := dk_42 (dk_at dksX26_line_4 3 rfl rfl)
theorem dX26_line_95 : decode cX26_line 95 = .ok (.getfield 14, 3) := dk_180 0 14 (dk_at dksX26_line_4 4 rfl rfl)
theorem dX26_line_98 : decode cX26_line 98 = .ok (.iconst 1, 1) := dk_4 (dk_at dksX26_line_4 7 rfl rfl)
theorem dX26_line_99 : decode cX26_line 99 = .ok (.putfield 43, 3) := dk_181 0 43 (dk_at dksX26_line_4 8 rfl rfl)
theorem dX26_line_102 : decode cX26_line 102 = .ok (.goto 28, 3) := dk_167 0 28 (dk_at dksX26_line_4 11 rfl rfl)
theorem dX26_line_105 : decode cX26_line 105 = .ok (.aload_n 0, 1) := dk_42 (dk_at dksX26_line_4 14 rfl rfl)
theorem dX26_line_106 : decode cX26_line 106 = .ok (.ldc 47, 2) := dk_18 47 (dk_at dksX26_line_4 15 rfl rfl)
theorem dX26_line_108 : decode cX26_line 108 = .ok (.invokevirtual 22, 3) := dk_182 0 22 (dk_at dksX26_line_4 17 rfl rfl)
theorem dX26_line_111 : decode cX26_line 111 = .ok (.ifCond .eq 14, 3) := dk_153 0 14 (dk_at dksX26_line_4 20 rfl rfl)
theorem dX26_line_114 : decode cX26_line 114 = .ok (.aload_n 0, 1) := dk_42 (dk_at dksX26_line_4 23 rfl rfl)
theorem dX26_line_115 : decode cX26_line 115 = .ok (.getfield 14, 3) := dk_180 0 14 (dk_at dksX26_line_5 0 rfl rfl)
theorem dX26_line_118 : decode cX26_line 118 = .ok (.iconst 1, 1) := dk_4 (dk_at dksX26_line_5 3 rfl rfl)
theorem dX26_line_119 : decode cX26_line 119 = .ok (.putfield 49, 3) := dk_181 0 49 (dk_at dksX26_line_5 4 rfl rfl)
theorem dX26_line_122 : decode cX26_line 122 = .ok (.goto 8, 3) := dk_167 0 8 (dk_at dksX26_line_5 7 rfl rfl)
theorem dX26_line_125 : decode cX26_line 125 = .ok (.aload_n 0, 1) := dk_42 (dk_at dksX26_line_5 10 rfl rfl)
theorem dX26_line_126 : decode cX26_line 126 = .ok (.invokevirtual 52, 3) := dk_182 0 52 (dk_at dksX26_line_5 11 rfl rfl)
theorem dX26_line_129 : decode cX26_line 129 = .ok (.athrow, 1) := dk_191 (dk_at dksX26_line_5 14 rfl rfl)
theorem dX26_line_130 : decode cX26_line 130 = .ok (.return_, 1) := dk_177 (dk_at dksX26_line_5 15 rfl rfl)
abbrev cX26_init : ByteArray := prog_11_method_1_code
def yX26_init : MethodName := ⟨RX26, "<init>", "([BI)V"⟩
def dkwX26_init_0 : List UInt8 := [42, 43, 28, 183, 0, 3, 42, 187, 0, 9, 89, 183, 0, 11, 181, 0, 14, 177]
abbrev dktX26_init_0 : List UInt8 := dkwX26_init_0 ++ []
theorem dksX26_init_0 : cX26_init.data.toList.drop 0 = dktX26_init_0 := by decide +kernel
theorem dX26_init_0 : decode cX26_init 0 = .ok (.aload_n 0, 1) := dk_42 (dk_at dksX26_init_0 0 rfl rfl)
theorem dX26_init_1 : decode cX26_init 1 = .ok (.aload_n 1, 1) := dk_43 (dk_at dksX26_init_0 1 rfl rfl)
theorem dX26_init_2 : decode cX26_init 2 = .ok (.iload_n 2, 1) := dk_28 (dk_at dksX26_init_0 2 rfl rfl)
theorem dX26_init_3 : decode cX26_init 3 = .ok (.invokespecial 3, 3) := dk_183 0 3 (dk_at dksX26_init_0 3 rfl rfl)
theorem dX26_init_6 : decode cX26_init 6 = .ok (.aload_n 0, 1) := dk_42 (dk_at dksX26_init_0 6 rfl rfl)
theorem dX26_init_7 : decode cX26_init 7 = .ok (.new 9, 3) := dk_187 0 9 (dk_at dksX26_init_0 7 rfl rfl)
theorem dX26_init_10 : decode cX26_init 10 = .ok (.dup, 1) := dk_89 (dk_at dksX26_init_0 10 rfl rfl)
theorem dX26_init_11 : decode cX26_init 11 = .ok (.invokespecial 11, 3) := dk_183 0 11 (dk_at dksX26_init_0 11 rfl rfl)
theorem dX26_init_14 : decode cX26_init 14 = .ok (.putfield 14, 3) := dk_181 0 14 (dk_at dksX26_init_0 14 rfl rfl)
theorem dX26_init_17 : decode cX26_init 17 = .ok (.return_, 1) := dk_177 (dk_at dksX26_init_0 17 rfl rfl)
theorem q141 : (Jvm.Cond.initialized "PumpCrossing$LawReader") ∈ lw_all := lw_g (lw_at lw_m1 45 rfl) rfl
theorem q192 : (Jvm.Cond.fieldLinkNest "PumpCrossing$LawReader" (30 : Nat) "PumpCrossing$Law" "once" "I" "PumpCrossing") ∈ lw_tbl := lw_at lw_m1 96 rfl
theorem q194 : (Jvm.Cond.fieldLinkNest "PumpCrossing$LawReader" (35 : Nat) "PumpCrossing$Law" "at" "I" "PumpCrossing") ∈ lw_tbl := lw_at lw_m1 98 rfl
theorem q197 : (Jvm.Cond.fieldLinkNest "PumpCrossing$LawReader" (39 : Nat) "PumpCrossing$Law" "cap" "I" "PumpCrossing") ∈ lw_tbl := lw_at lw_m1 101 rfl
theorem q198 : (Jvm.Cond.fieldLinkNest "PumpCrossing$LawReader" (43 : Nat) "PumpCrossing$Law" "isTold" "Z" "PumpCrossing") ∈ lw_tbl := lw_at lw_m1 102 rfl
theorem q201 : (Jvm.Cond.fieldLinkNest "PumpCrossing$LawReader" (49 : Nat) "PumpCrossing$Law" "isCost" "Z" "PumpCrossing") ∈ lw_tbl := lw_at lw_m1 105 rfl
theorem q687 : (Jvm.Cond.selects "PumpCrossing$LawReader" ({ cls := "java/lang/Object", name := "getClass", desc := "()Ljava/lang/Class;" } : Jvm.MethodName) ({ cls := "java/lang/Object", name := "getClass", desc := "()Ljava/lang/Class;" } : Jvm.MethodName)) ∈ lw_all := lw_g (lw_at lw_m3 111 rfl) rfl
theorem q837 : (Jvm.Cond.selects "PumpCrossing$LawReader" ({ cls := "PumpCrossing$Reader", name := "next", desc := "()V" } : Jvm.MethodName) ({ cls := "PumpCrossing$Reader", name := "next", desc := "()V" } : Jvm.MethodName)) ∈ lw_all := lw_g (lw_at lw_m4 21 rfl) rfl
theorem q967 : (Jvm.Cond.selects "PumpCrossing$LawReader" ({ cls := "PumpCrossing$Reader", name := "all", desc := "()I" } : Jvm.MethodName) ({ cls := "PumpCrossing$Reader", name := "all", desc := "()I" } : Jvm.MethodName)) ∈ lw_all := lw_g (lw_at lw_m4 151 rfl) rfl
theorem q973 : (Jvm.Cond.selects "PumpCrossing$LawReader" ({ cls := "PumpCrossing$Reader", name := "line", desc := "()V" } : Jvm.MethodName) ({ cls := "PumpCrossing$LawReader", name := "line", desc := "()V" } : Jvm.MethodName)) ∈ lw_all := lw_g (lw_at lw_m4 157 rfl) rfl
theorem q974 : (Jvm.Cond.instanceMethod ({ cls := "PumpCrossing$LawReader", name := "line", desc := "()V" } : Jvm.MethodName)) ∈ lw_all := lw_g (lw_at lw_m4 158 rfl) rfl
theorem q975 : (Jvm.Cond.code ({ cls := "PumpCrossing$LawReader", name := "line", desc := "()V" } : Jvm.MethodName) prog_11_method_2_code (1 : Nat) (Option.none : Option Jvm.ClassFile.FieldType)) ∈ lw_all := lw_g (lw_at lw_m4 159 rfl) rfl
theorem q976 : (Jvm.Cond.stringRef "PumpCrossing$LawReader" (20 : Nat) "once") ∈ lw_tbl := lw_at lw_m4 160 rfl
theorem q977 : (Jvm.Cond.methodLink "PumpCrossing$LawReader" (22 : Nat) ({ cls := "PumpCrossing$LawReader", name := "eats", desc := "(Ljava/lang/String;)Z" } : Jvm.MethodName)) ∈ lw_all := lw_g (lw_at lw_m4 161 rfl) rfl
theorem q978 : (Jvm.Cond.sameMethod "PumpCrossing$LawReader" "PumpCrossing$Reader" "eats" "(Ljava/lang/String;)Z") ∈ lw_all := lw_g (lw_at lw_m4 162 rfl) rfl
theorem q980 : (Jvm.Cond.selects "PumpCrossing$LawReader" ({ cls := "PumpCrossing$LawReader", name := "eats", desc := "(Ljava/lang/String;)Z" } : Jvm.MethodName) ({ cls := "PumpCrossing$Reader", name := "eats", desc := "(Ljava/lang/String;)Z" } : Jvm.MethodName)) ∈ lw_all := lw_g (lw_at lw_m4 164 rfl) rfl
theorem q986 : (Jvm.Cond.selects "PumpCrossing$LawReader" ({ cls := "PumpCrossing$Reader", name := "is", desc := "(Ljava/lang/String;)Z" } : Jvm.MethodName) ({ cls := "PumpCrossing$Reader", name := "is", desc := "(Ljava/lang/String;)Z" } : Jvm.MethodName)) ∈ lw_all := lw_g (lw_at lw_m4 170 rfl) rfl
theorem q1008 : (Jvm.Cond.methodLink "PumpCrossing$LawReader" (26 : Nat) ({ cls := "PumpCrossing$LawReader", name := "number", desc := "(II)I" } : Jvm.MethodName)) ∈ lw_all := lw_g (lw_at lw_m4 192 rfl) rfl
theorem q1009 : (Jvm.Cond.sameMethod "PumpCrossing$LawReader" "PumpCrossing$Reader" "number" "(II)I") ∈ lw_all := lw_g (lw_at lw_m4 193 rfl) rfl
theorem q1011 : (Jvm.Cond.selects "PumpCrossing$LawReader" ({ cls := "PumpCrossing$LawReader", name := "number", desc := "(II)I" } : Jvm.MethodName) ({ cls := "PumpCrossing$Reader", name := "number", desc := "(II)I" } : Jvm.MethodName)) ∈ lw_all := lw_g (lw_at lw_m4 195 rfl) rfl
theorem q1017 : (Jvm.Cond.selects "PumpCrossing$LawReader" ({ cls := "PumpCrossing$Reader", name := "wrong", desc := "()LPumpCrossing$Bad;" } : Jvm.MethodName) ({ cls := "PumpCrossing$Reader", name := "wrong", desc := "()LPumpCrossing$Bad;" } : Jvm.MethodName)) ∈ lw_all := lw_g (lw_at lw_m4 201 rfl) rfl
theorem q1052 : (Jvm.Cond.selects "PumpCrossing$LawReader" ({ cls := "PumpCrossing$Reader", name := "here", desc := "(I)LPumpCrossing$Bad;" } : Jvm.MethodName) ({ cls := "PumpCrossing$Reader", name := "here", desc := "(I)LPumpCrossing$Bad;" } : Jvm.MethodName)) ∈ lw_all := lw_g (lw_at lw_m4 236 rfl) rfl
theorem q1055 : (Jvm.Cond.stringRef "PumpCrossing$LawReader" (33 : Nat) "at") ∈ lw_tbl := lw_at lw_m4 239 rfl
theorem q1056 : (Jvm.Cond.stringRef "PumpCrossing$LawReader" (37 : Nat) "cap") ∈ lw_tbl := lw_at lw_m5 0 rfl
theorem q1057 : (Jvm.Cond.stringRef "PumpCrossing$LawReader" (41 : Nat) "told") ∈ lw_tbl := lw_at lw_m5 1 rfl
theorem q1058 : (Jvm.Cond.stringRef "PumpCrossing$LawReader" (47 : Nat) "cost") ∈ lw_tbl := lw_at lw_m5 2 rfl
theorem q1059 : (Jvm.Cond.methodLink "PumpCrossing$LawReader" (52 : Nat) ({ cls := "PumpCrossing$LawReader", name := "wrong", desc := "()LPumpCrossing$Bad;" } : Jvm.MethodName)) ∈ lw_all := lw_g (lw_at lw_m5 3 rfl) rfl
theorem q1060 : (Jvm.Cond.sameMethod "PumpCrossing$LawReader" "PumpCrossing$Reader" "wrong" "()LPumpCrossing$Bad;") ∈ lw_all := lw_g (lw_at lw_m5 4 rfl) rfl
theorem q1062 : (Jvm.Cond.selects "PumpCrossing$LawReader" ({ cls := "PumpCrossing$LawReader", name := "wrong", desc := "()LPumpCrossing$Bad;" } : Jvm.MethodName) ({ cls := "PumpCrossing$Reader", name := "wrong", desc := "()LPumpCrossing$Bad;" } : Jvm.MethodName)) ∈ lw_all := lw_g (lw_at lw_m5 6 rfl) rfl
theorem q1266 : (Jvm.Cond.instantiable "PumpCrossing$LawReader" (7 : Nat)) ∈ lw_all := lw_g (lw_at lw_m5 210 rfl) rfl
theorem q1268 : (Jvm.Cond.instanceMethod ({ cls := "PumpCrossing$LawReader", name := "<init>", desc := "([BI)V" } : Jvm.MethodName)) ∈ lw_all := lw_g (lw_at lw_m5 212 rfl) rfl
theorem q1269 : (Jvm.Cond.code ({ cls := "PumpCrossing$LawReader", name := "<init>", desc := "([BI)V" } : Jvm.MethodName) prog_11_method_1_code (3 : Nat) (Option.none : Option Jvm.ClassFile.FieldType)) ∈ lw_all := lw_g (lw_at lw_m5 213 rfl) rfl
theorem q1270 : (Jvm.Cond.methodLink "PumpCrossing$LawReader" (3 : Nat) ({ cls := "PumpCrossing$Reader", name := "<init>", desc := "([BI)V" } : Jvm.MethodName)) ∈ lw_all := lw_g (lw_at lw_m5 214 rfl) rfl
theorem q1271 : (Jvm.Cond.classLink "PumpCrossing$LawReader" (9 : Nat) "PumpCrossing$Law") ∈ lw_all := lw_g (lw_at lw_m5 215 rfl) rfl
theorem q1272 : (Jvm.Cond.methodLinkNest "PumpCrossing$LawReader" (11 : Nat) ({ cls := "PumpCrossing$Law", name := "<init>", desc := "()V" } : Jvm.MethodName) "PumpCrossing") ∈ lw_tbl := lw_at lw_m5 216 rfl
theorem q1273 : (Jvm.Cond.fieldLink "PumpCrossing$LawReader" (14 : Nat) "PumpCrossing$LawReader" "made" "LPumpCrossing$Law;") ∈ lw_all := lw_g (lw_at lw_m5 217 rfl) rfl
theorem q1275 : (Jvm.Cond.laysFinal "PumpCrossing$LawReader" "PumpCrossing$LawReader" "made" "LPumpCrossing$Law;") ∈ lw_all := lw_g (lw_at lw_m5 219 rfl) rfl
theorem q1276 : (Jvm.Cond.soleField "PumpCrossing$LawReader" "made") ∈ lw_all := lw_g (lw_at lw_m5 220 rfl) rfl
theorem q1277 : (Jvm.Cond.laysFinal "PumpCrossing$LawReader" "PumpCrossing$Reader" "tape" "[B") ∈ lw_all := lw_g (lw_at lw_m5 221 rfl) rfl
theorem q1278 : (Jvm.Cond.laysFinal "PumpCrossing$LawReader" "PumpCrossing$Reader" "size" "I") ∈ lw_all := lw_g (lw_at lw_m5 222 rfl) rfl
theorem q1279 : (Jvm.Cond.lays "PumpCrossing$LawReader" "PumpCrossing$Reader" "at" "I") ∈ lw_all := lw_g (lw_at lw_m5 223 rfl) rfl
theorem q1280 : (Jvm.Cond.lays "PumpCrossing$LawReader" "PumpCrossing$Reader" "behind" "I") ∈ lw_all := lw_g (lw_at lw_m5 224 rfl) rfl
theorem q1281 : (Jvm.Cond.lays "PumpCrossing$LawReader" "PumpCrossing$Reader" "sort" "I") ∈ lw_all := lw_g (lw_at lw_m5 225 rfl) rfl
theorem q1282 : (Jvm.Cond.lays "PumpCrossing$LawReader" "PumpCrossing$Reader" "number" "I") ∈ lw_all := lw_g (lw_at lw_m5 226 rfl) rfl
theorem q1283 : (Jvm.Cond.superclass "PumpCrossing$LawReader" "PumpCrossing$Reader") ∈ lw_all := lw_g (lw_at lw_m5 227 rfl) rfl
theorem q2404 : (Jvm.Cond.selects "PumpCrossing$LawReader" ({ cls := "PumpCrossing$Reader", name := "isSign", desc := "(C)Z" } : Jvm.MethodName) ({ cls := "PumpCrossing$Reader", name := "isSign", desc := "(C)Z" } : Jvm.MethodName)) ∈ lw_all := lw_g (lw_at lw_m10 148 rfl) rfl
theorem q2437 : (Jvm.Cond.castable "PumpCrossing$LawReader" "java/lang/Object") ∈ lw_tbl := lw_at lw_m10 181 rfl
theorem in_X26 : ∀ w ∈ wsX260, w ∈ lw_all := lw_in wsX260 [1277, 1278, 1279, 1280, 1281, 1282, 1275] (by decide +kernel) (by decide +kernel)
theorem q1306 : (Jvm.Cond.interfaceMethod "PumpCrossing$Past" "PumpCrossing$Past" "at" "(II)I") ∈ lw_tbl := lw_at lw_m6 10 rfl
set_option maxRecDepth 100000
theorem q1307 : (Jvm.Cond.declares ({ cls := "PumpCrossing$Past", name := "at", desc := "(II)I" } : Jvm.MethodName)) ∈ lw_tbl := lw_at lw_m6 11 rfl
theorem q1329 : (Jvm.Cond.interfaceMethod "PumpCrossing$Past" "PumpCrossing$Past" "since" "(II)I") ∈ lw_tbl := lw_at lw_m6 33 rfl
theorem q1330 : (Jvm.Cond.declares ({ cls := "PumpCrossing$Past", name := "since", desc := "(II)I" } : Jvm.MethodName)) ∈ lw_tbl := lw_at lw_m6 34 rfl
theorem q1351 : (Jvm.Cond.interfaceMethod "PumpCrossing$Term" "PumpCrossing$Term" "of" "([I)I") ∈ lw_tbl := lw_at lw_m6 55 rfl
set_option maxRecDepth 100000
theorem q1352 : (Jvm.Cond.declares ({ cls := "PumpCrossing$Term", name := "of", desc := "([I)I" } : Jvm.MethodName)) ∈ lw_tbl := lw_at lw_m6 56 rfl
theorem q2449 : (Jvm.Cond.castable "[B" "java/lang/Object") ∈ lw_tbl := lw_at lw_m10 193 rfl
set_option maxRecDepth 100000
theorem q2450 : (Jvm.Cond.castable "[I" "java/lang/Object") ∈ lw_tbl := lw_at lw_m10 194 rfl
set_option maxRecDepth 100000
theorem q2453 : (Jvm.Cond.castable "[J" "java/lang/Object") ∈ lw_tbl := lw_at lw_m10 197 rfl
set_option maxRecDepth 100000
theorem q2451 : (Jvm.Cond.castable "[LPumpCrossing$Crossing;" "java/lang/Object") ∈ lw_tbl := lw_at lw_m10 195 rfl
set_option maxRecDepth 100000
theorem q2454 : (Jvm.Cond.castable "[LPumpCrossing$Tray;" "java/lang/Object") ∈ lw_tbl := lw_at lw_m10 198 rfl
set_option maxRecDepth 100000
theorem q2444 : (Jvm.Cond.sameMethod "[Ljava/lang/Object;" "java/lang/Object" "getClass" "()Ljava/lang/Class;") ∈ lw_all := lw_g (lw_at lw_m10 188 rfl) rfl
set_option maxRecDepth 100000
theorem q2445 : (Jvm.Cond.selects "[Ljava/lang/Object;" ({ cls := "java/lang/Object", name := "getClass", desc := "()Ljava/lang/Class;" } : Jvm.MethodName) ({ cls := "java/lang/Object", name := "getClass", desc := "()Ljava/lang/Class;" } : Jvm.MethodName)) ∈ lw_all := lw_g (lw_at lw_m10 189 rfl) rfl
theorem q2455 : (Jvm.Cond.castable "[Ljava/lang/Object;" "java/lang/Object") ∈ lw_tbl := lw_at lw_m10 199 rfl
theorem q2456 : (Jvm.Cond.castable "[S" "java/lang/Object") ∈ lw_tbl := lw_at lw_m10 200 rfl
set_option maxRecDepth 100000
theorem q2457 : (Jvm.Cond.castable "[Z" "java/lang/Object") ∈ lw_tbl := lw_at lw_m10 201 rfl
set_option maxRecDepth 100000
theorem q2447 : (Jvm.Cond.castable "[[B" "java/lang/Object") ∈ lw_tbl := lw_at lw_m10 191 rfl
set_option maxRecDepth 100000
theorem q2448 : (Jvm.Cond.castable "[[I" "java/lang/Object") ∈ lw_tbl := lw_at lw_m10 192 rfl
set_option maxRecDepth 100000
theorem q2452 : (Jvm.Cond.castable "[[J" "java/lang/Object") ∈ lw_tbl := lw_at lw_m10 196 rfl
set_option maxRecDepth 100000
theorem q117 : (Jvm.Cond.initialized "java/lang/System") ∈ lw_all := lw_g (lw_at lw_m1 21 rfl) rfl
set_option maxRecDepth 100000
theorem q718 : (Jvm.Cond.static ({ cls := "java/lang/System", name := "arraycopy", desc := "(Ljava/lang/Object;ILjava/lang/Object;II)V" } : Jvm.MethodName)) ∈ lw_all := lw_g (lw_at lw_m3 142 rfl) rfl
theorem q719 : (Jvm.Cond.native ({ cls := "java/lang/System", name := "arraycopy", desc := "(Ljava/lang/Object;ILjava/lang/Object;II)V" } : Jvm.MethodName)) ∈ lw_all := lw_g (lw_at lw_m3 143 rfl) rfl
theorem q214 : (Jvm.Cond.arrayOver (Jvm.ClassFile.FieldType.array Jvm.ClassFile.FieldType.byte)) ∈ lw_tbl := lw_at lw_m1 118 rfl
set_option maxRecDepth 100000
theorem q216 : (Jvm.Cond.arrayOver (Jvm.ClassFile.FieldType.array Jvm.ClassFile.FieldType.int)) ∈ lw_tbl := lw_at lw_m1 120 rfl
theorem q269 : (Jvm.Cond.arrayClass Jvm.ClassFile.FieldType.byte) ∈ lw_all := lw_g (lw_at lw_m1 173 rfl) rfl
theorem q270 : (Jvm.Cond.arrayClass Jvm.ClassFile.FieldType.int) ∈ lw_all := lw_g (lw_at lw_m1 174 rfl) rfl
theorem q271 : (Jvm.Cond.arrayOver (Jvm.ClassFile.FieldType.object "PumpCrossing$Crossing")) ∈ lw_tbl := lw_at lw_m1 175 rfl
theorem q294 : (Jvm.Cond.arrayOver (Jvm.ClassFile.FieldType.array Jvm.ClassFile.FieldType.long)) ∈ lw_tbl := lw_at lw_m1 198 rfl
theorem q322 : (Jvm.Cond.arrayClass Jvm.ClassFile.FieldType.long) ∈ lw_all := lw_g (lw_at lw_m1 226 rfl) rfl
theorem q324 : (Jvm.Cond.arrayOver (Jvm.ClassFile.FieldType.object "PumpCrossing$Tray")) ∈ lw_tbl := lw_at lw_m1 228 rfl
theorem q714 : (Jvm.Cond.arrayOver (Jvm.ClassFile.FieldType.object "java/lang/Object")) ∈ lw_tbl := lw_at lw_m3 138 rfl
theorem q1781 : (Jvm.Cond.arrayClass Jvm.ClassFile.FieldType.short) ∈ lw_all := lw_g (lw_at lw_m8 5 rfl) rfl
theorem q1949 : (Jvm.Cond.arrayClass Jvm.ClassFile.FieldType.boolean) ∈ lw_all := lw_g (lw_at lw_m8 173 rfl) rfl
