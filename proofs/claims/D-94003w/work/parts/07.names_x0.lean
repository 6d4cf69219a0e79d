/-! PumpCrossingLaw -/
set_option maxRecDepth 100000
def RX0 : String := "PumpCrossingLaw"
abbrev cX0_station : ByteArray := method_3_code
def yX0_station : MethodName := ⟨RX0, "station", "(LPumpCrossing;III[J)I"⟩
def dkwX0_station_1 : List UInt8 := [172]
abbrev dktX0_station_1 : List UInt8 := dkwX0_station_1 ++ []
def dkwX0_station_0 : List UInt8 := [25, 4, 3, 42, 27, 28, 29, 182, 0, 7, 133, 80, 167, 0, 11, 58, 5, 4, 172, 58, 5, 5, 172, 3]
abbrev dktX0_station_0 : List UInt8 := dkwX0_station_0 ++ dktX0_station_1
theorem dksX0_station_0 : cX0_station.data.toList.drop 0 = dktX0_station_0 := by decide +kernel
theorem dksX0_station_1 : cX0_station.data.toList.drop 24 = dktX0_station_1 := dk_seg dksX0_station_0 24 rfl rfl
theorem dX0_station_0 : decode cX0_station 0 = .ok (.aload 4, 2) := dk_25 4 (dk_at dksX0_station_0 0 rfl rfl)
theorem dX0_station_2 : decode cX0_station 2 = .ok (.iconst 0, 1) := dk_3 (dk_at dksX0_station_0 2 rfl rfl)
theorem dX0_station_3 : decode cX0_station 3 = .ok (.aload_n 0, 1) := dk_42 (dk_at dksX0_station_0 3 rfl rfl)
theorem dX0_station_4 : decode cX0_station 4 = .ok (.iload_n 1, 1) := dk_27 (dk_at dksX0_station_0 4 rfl rfl)
theorem dX0_station_5 : decode cX0_station 5 = .ok (.iload_n 2, 1) := dk_28 (dk_at dksX0_station_0 5 rfl rfl)
theorem dX0_station_6 : decode cX0_station 6 = .ok (.iload_n 3, 1) := dk_29 (dk_at dksX0_station_0 6 rfl rfl)
theorem dX0_station_7 : decode cX0_station 7 = .ok (.invokevirtual 7, 3) := dk_182 0 7 (dk_at dksX0_station_0 7 rfl rfl)
theorem dX0_station_10 : decode cX0_station 10 = .ok (.i2l, 1) := dk_133 (dk_at dksX0_station_0 10 rfl rfl)
theorem dX0_station_11 : decode cX0_station 11 = .ok (.lastore, 1) := dk_80 (dk_at dksX0_station_0 11 rfl rfl)
theorem dX0_station_12 : decode cX0_station 12 = .ok (.goto 11, 3) := dk_167 0 11 (dk_at dksX0_station_0 12 rfl rfl)
theorem dX0_station_15 : decode cX0_station 15 = .ok (.astore 5, 2) := dk_58 5 (dk_at dksX0_station_0 15 rfl rfl)
theorem dX0_station_17 : decode cX0_station 17 = .ok (.iconst 1, 1) := dk_4 (dk_at dksX0_station_0 17 rfl rfl)
theorem dX0_station_18 : decode cX0_station 18 = .ok (.ireturn, 1) := dk_172 (dk_at dksX0_station_0 18 rfl rfl)
theorem dX0_station_19 : decode cX0_station 19 = .ok (.astore 5, 2) := dk_58 5 (dk_at dksX0_station_0 19 rfl rfl)
theorem dX0_station_21 : decode cX0_station 21 = .ok (.iconst 2, 1) := dk_5 (dk_at dksX0_station_0 21 rfl rfl)
theorem dX0_station_22 : decode cX0_station 22 = .ok (.ireturn, 1) := dk_172 (dk_at dksX0_station_0 22 rfl rfl)
theorem dX0_station_23 : decode cX0_station 23 = .ok (.iconst 0, 1) := dk_3 (dk_at dksX0_station_0 23 rfl rfl)
theorem dX0_station_24 : decode cX0_station 24 = .ok (.ireturn, 1) := dk_172 (dk_at dksX0_station_1 0 rfl rfl)
abbrev cX0_driver : ByteArray := method_4_code
def yX0_driver : MethodName := ⟨RX0, "driver", "(LPumpCrossing;IIII[J)I"⟩
def dkwX0_driver_1 : List UInt8 := [172, 3, 172]
abbrev dktX0_driver_1 : List UInt8 := dkwX0_driver_1 ++ []
def dkwX0_driver_0 : List UInt8 := [25, 5, 3, 42, 27, 28, 29, 21, 4, 182, 0, 17, 133, 80, 167, 0, 11, 58, 6, 4, 172, 58, 6, 5]
abbrev dktX0_driver_0 : List UInt8 := dkwX0_driver_0 ++ dktX0_driver_1
theorem dksX0_driver_0 : cX0_driver.data.toList.drop 0 = dktX0_driver_0 := by decide +kernel
theorem dksX0_driver_1 : cX0_driver.data.toList.drop 24 = dktX0_driver_1 := dk_seg dksX0_driver_0 24 rfl rfl
theorem dX0_driver_0 : decode cX0_driver 0 = .ok (.aload 5, 2) := dk_25 5 (dk_at dksX0_driver_0 0 rfl rfl)
theorem dX0_driver_2 : decode cX0_driver 2 = .ok (.iconst 0, 1) := dk_3 (dk_at dksX0_driver_0 2 rfl rfl)
theorem dX0_driver_3 : decode cX0_driver 3 = .ok (.aload_n 0, 1) := dk_42 (dk_at dksX0_driver_0 3 rfl rfl)
theorem dX0_driver_4 : decode cX0_driver 4 = .ok (.iload_n 1, 1) := dk_27 (dk_at dksX0_driver_0 4 rfl rfl)
theorem dX0_driver_5 : decode cX0_driver 5 = .ok (.iload_n 2, 1) := dk_28 (dk_at dksX0_driver_0 5 rfl rfl)
theorem dX0_driver_6 : decode cX0_driver 6 = .ok (.iload_n 3, 1) := dk_29 (dk_at dksX0_driver_0 6 rfl rfl)
theorem dX0_driver_7 : decode cX0_driver 7 = .ok (.iload 4, 2) := dk_21 4 (dk_at dksX0_driver_0 7 rfl rfl)
theorem dX0_driver_9 : decode cX0_driver 9 = .ok (.invokevirtual 17, 3) := dk_182 0 17 (dk_at dksX0_driver_0 9 rfl rfl)
theorem dX0_driver_12 : decode cX0_driver 12 = .ok (.i2l, 1) := dk_133 (dk_at dksX0_driver_0 12 rfl rfl)
theorem dX0_driver_13 : decode cX0_driver 13 = .ok (.lastore, 1) := dk_80 (dk_at dksX0_driver_0 13 rfl rfl)
theorem dX0_driver_14 : decode cX0_driver 14 = .ok (.goto 11, 3) := dk_167 0 11 (dk_at dksX0_driver_0 14 rfl rfl)
theorem dX0_driver_17 : decode cX0_driver 17 = .ok (.astore 6, 2) := dk_58 6 (dk_at dksX0_driver_0 17 rfl rfl)
theorem dX0_driver_19 : decode cX0_driver 19 = .ok (.iconst 1, 1) := dk_4 (dk_at dksX0_driver_0 19 rfl rfl)
theorem dX0_driver_20 : decode cX0_driver 20 = .ok (.ireturn, 1) := dk_172 (dk_at dksX0_driver_0 20 rfl rfl)
theorem dX0_driver_21 : decode cX0_driver 21 = .ok (.astore 6, 2) := dk_58 6 (dk_at dksX0_driver_0 21 rfl rfl)
theorem dX0_driver_23 : decode cX0_driver 23 = .ok (.iconst 2, 1) := dk_5 (dk_at dksX0_driver_0 23 rfl rfl)
theorem dX0_driver_24 : decode cX0_driver 24 = .ok (.ireturn, 1) := dk_172 (dk_at dksX0_driver_1 0 rfl rfl)
theorem dX0_driver_25 : decode cX0_driver 25 = .ok (.iconst 0, 1) := dk_3 (dk_at dksX0_driver_1 1 rfl rfl)
theorem dX0_driver_26 : decode cX0_driver 26 = .ok (.ireturn, 1) := dk_172 (dk_at dksX0_driver_1 2 rfl rfl)
abbrev cX0_cost : ByteArray := method_5_code
def yX0_cost : MethodName := ⟨RX0, "cost", "(LPumpCrossing;II[J)I"⟩
def dkwX0_cost_0 : List UInt8 := [45, 3, 42, 27, 28, 182, 0, 23, 133, 80, 167, 0, 11, 58, 4, 4, 172, 58, 4, 5, 172, 3, 172]
abbrev dktX0_cost_0 : List UInt8 := dkwX0_cost_0 ++ []
theorem dksX0_cost_0 : cX0_cost.data.toList.drop 0 = dktX0_cost_0 := by decide +kernel
theorem dX0_cost_0 : decode cX0_cost 0 = .ok (.aload_n 3, 1) := dk_45 (dk_at dksX0_cost_0 0 rfl rfl)
theorem dX0_cost_1 : decode cX0_cost 1 = .ok (.iconst 0, 1) := dk_3 (dk_at dksX0_cost_0 1 rfl rfl)
theorem dX0_cost_2 : decode cX0_cost 2 = .ok (.aload_n 0, 1) := dk_42 (dk_at dksX0_cost_0 2 rfl rfl)
theorem dX0_cost_3 : decode cX0_cost 3 = .ok (.iload_n 1, 1) := dk_27 (dk_at dksX0_cost_0 3 rfl rfl)
theorem dX0_cost_4 : decode cX0_cost 4 = .ok (.iload_n 2, 1) := dk_28 (dk_at dksX0_cost_0 4 rfl rfl)
theorem dX0_cost_5 : decode cX0_cost 5 = .ok (.invokevirtual 23, 3) := dk_182 0 23 (dk_at dksX0_cost_0 5 rfl rfl)
theorem dX0_cost_8 : decode cX0_cost 8 = .ok (.i2l, 1) := dk_133 (dk_at dksX0_cost_0 8 rfl rfl)
theorem dX0_cost_9 : decode cX0_cost 9 = .ok (.lastore, 1) := dk_80 (dk_at dksX0_cost_0 9 rfl rfl)
theorem dX0_cost_10 : decode cX0_cost 10 = .ok (.goto 11, 3) := dk_167 0 11 (dk_at dksX0_cost_0 10 rfl rfl)
theorem dX0_cost_13 : decode cX0_cost 13 = .ok (.astore 4, 2) := dk_58 4 (dk_at dksX0_cost_0 13 rfl rfl)
theorem dX0_cost_15 : decode cX0_cost 15 = .ok (.iconst 1, 1) := dk_4 (dk_at dksX0_cost_0 15 rfl rfl)
theorem dX0_cost_16 : decode cX0_cost 16 = .ok (.ireturn, 1) := dk_172 (dk_at dksX0_cost_0 16 rfl rfl)
theorem dX0_cost_17 : decode cX0_cost 17 = .ok (.astore 4, 2) := dk_58 4 (dk_at dksX0_cost_0 17 rfl rfl)
theorem dX0_cost_19 : decode cX0_cost 19 = .ok (.iconst 2, 1) := dk_5 (dk_at dksX0_cost_0 19 rfl rfl)
theorem dX0_cost_20 : decode cX0_cost 20 = .ok (.ireturn, 1) := dk_172 (dk_at dksX0_cost_0 20 rfl rfl)
theorem dX0_cost_21 : decode cX0_cost 21 = .ok (.iconst 0, 1) := dk_3 (dk_at dksX0_cost_0 21 rfl rfl)
theorem dX0_cost_22 : decode cX0_cost 22 = .ok (.ireturn, 1) := dk_172 (dk_at dksX0_cost_0 22 rfl rfl)
abbrev cX0_late : ByteArray := method_6_code
def yX0_late : MethodName := ⟨RX0, "late", "(LPumpCrossing;II[J)I"⟩
def dkwX0_late_0 : List UInt8 := [45, 3, 42, 27, 28, 182, 0, 27, 133, 80, 167, 0, 11, 58, 4, 4, 172, 58, 4, 5, 172, 3, 172]
abbrev dktX0_late_0 : List UInt8 := dkwX0_late_0 ++ []
theorem dksX0_late_0 : cX0_late.data.toList.drop 0 = dktX0_late_0 := by decide +kernel
theorem dX0_late_0 : decode cX0_late 0 = .ok (.aload_n 3, 1) := dk_45 (dk_at dksX0_late_0 0 rfl rfl)
theorem dX0_late_1 : decode cX0_late 1 = .ok (.iconst 0, 1) := dk_3 (dk_at dksX0_late_0 1 rfl rfl)
theorem dX0_late_2 : decode cX0_late 2 = .ok (.aload_n 0, 1) := dk_42 (dk_at dksX0_late_0 2 rfl rfl)
theorem dX0_late_3 : decode cX0_late 3 = .ok (.iload_n 1, 1) := dk_27 (dk_at dksX0_late_0 3 rfl rfl)
theorem dX0_late_4 : decode cX0_late 4 = .ok (.iload_n 2, 1) := dk_28 (dk_at dksX0_late_0 4 rfl rfl)
theorem dX0_late_5 : decode cX0_late 5 = .ok (.invokevirtual 27, 3) := dk_182 0 27 (dk_at dksX0_late_0 5 rfl rfl)
theorem dX0_late_8 : decode cX0_late 8 = .ok (.i2l, 1) := dk_133 (dk_at dksX0_late_0 8 rfl rfl)
theorem dX0_late_9 : decode cX0_late 9 = .ok (.lastore, 1) := dk_80 (dk_at dksX0_late_0 9 rfl rfl)
theorem dX0_late_10 : decode cX0_late 10 = .ok (.goto 11, 3) := dk_167 0 11 (dk_at dksX0_late_0 10 rfl rfl)
theorem dX0_late_13 : decode cX0_late 13 = .ok (.astore 4, 2) := dk_58 4 (dk_at dksX0_late_0 13 rfl rfl)
theorem dX0_late_15 : decode cX0_late 15 = .ok (.iconst 1, 1) := dk_4 (dk_at dksX0_late_0 15 rfl rfl)
theorem dX0_late_16 : decode cX0_late 16 = .ok (.ireturn, 1) := dk_172 (dk_at dksX0_late_0 16 rfl rfl)
theorem dX0_late_17 : decode cX0_late 17 = .ok (.astore 4, 2) := dk_58 4 (dk_at dksX0_late_0 17 rfl rfl)
theorem dX0_late_19 : decode cX0_late 19 = .ok (.iconst 2, 1) := dk_5 (dk_at dksX0_late_0 19 rfl rfl)
theorem dX0_late_20 : decode cX0_late 20 = .ok (.ireturn, 1) := dk_172 (dk_at dksX0_late_0 20 rfl rfl)
theorem dX0_late_21 : decode cX0_late 21 = .ok (.iconst 0, 1) := dk_3 (dk_at dksX0_late_0 21 rfl rfl)
theorem dX0_late_22 : decode cX0_late 22 = .ok (.ireturn, 1) := dk_172 (dk_at dksX0_late_0 22 rfl rfl)
abbrev cX0_rules : ByteArray := method_7_code
def yX0_rules : MethodName := ⟨RX0, "rules", "(LPumpCrossing;II[J)I"⟩
def dkwX0_rules_0 : List UInt8 := [45, 3, 42, 27, 28, 182, 0, 30, 133, 80, 167, 0, 11, 58, 4, 4, 172, 58, 4, 5, 172, 3, 172]
abbrev dktX0_rules_0 : List UInt8 := dkwX0_rules_0 ++ []
theorem dksX0_rules_0 : cX0_rules.data.toList.drop 0 = dktX0_rules_0 := by decide +kernel
theorem dX0_rules_0 : decode cX0_rules 0 = .ok (.aload_n 3, 1) := dk_45 (dk_at dksX0_rules_0 0 rfl rfl)
theorem dX0_rules_1 : decode cX0_rules 1 = .ok (.iconst 0, 1) := dk_3 (dk_at dksX0_rules_0 1 rfl rfl)
theorem dX0_rules_2 : decode cX0_rules 2 = .ok (.aload_n 0, 1) := dk_42 (dk_at dksX0_rules_0 2 rfl rfl)
theorem dX0_rules_3 : decode cX0_rules 3 = .ok (.iload_n 1, 1) := dk_27 (dk_at dksX0_rules_0 3 rfl rfl)
theorem dX0_rules_4 : decode cX0_rules 4 = .ok (.iload_n 2, 1) := dk_28 (dk_at dksX0_rules_0 4 rfl rfl)
theorem dX0_rules_5 : decode cX0_rules 5 = .ok (.invokevirtual 30, 3) := dk_182 0 30 (dk_at dksX0_rules_0 5 rfl rfl)
theorem dX0_rules_8 : decode cX0_rules 8 = .ok (.i2l, 1) := dk_133 (dk_at dksX0_rules_0 8 rfl rfl)
theorem dX0_rules_9 : decode cX0_rules 9 = .ok (.lastore, 1) := dk_80 (dk_at dksX0_rules_0 9 rfl rfl)
theorem dX0_rules_10 : decode cX0_rules 10 = .ok (.goto 11, 3) := dk_167 0 11 (dk_at dksX0_rules_0 10 rfl rfl)
theorem dX0_rules_13 : decode cX0_rules 13 = .ok (.astore 4, 2) := dk_58 4 (dk_at dksX0_rules_0 13 rfl rfl)
theorem dX0_rules_15 : decode cX0_rules 15 = .ok (.iconst 1, 1) := dk_4 (dk_at dksX0_rules_0 15 rfl rfl)
theorem dX0_rules_16 : decode cX0_rules 16 = .ok (.ireturn, 1) := dk_172 (dk_at dksX0_rules_0 16 rfl rfl)
theorem dX0_rules_17 : decode cX0_rules 17 = .ok (.astore 4, 2) := dk_58 4 (dk_at dksX0_rules_0 17 rfl rfl)
theorem dX0_rules_19 : decode cX0_rules 19 = .ok (.iconst 2, 1) := dk_5 (dk_at dksX0_rules_0 19 rfl rfl)
theorem dX0_rules_20 : decode cX0_rules 20 = .ok (.ireturn, 1) := dk_172 (dk_at dksX0_rules_0 20 rfl rfl)
theorem dX0_rules_21 : decode cX0_rules 21 = .ok (.iconst 0, 1) := dk_3 (dk_at dksX0_rules_0 21 rfl rfl)
theorem dX0_rules_22 : decode cX0_rules 22 = .ok (.ireturn, 1) := dk_172 (dk_at dksX0_rules_0 22 rfl rfl)
abbrev cX0_law : ByteArray := method_8_code
def yX0_law : MethodName := ⟨RX0, "law", "(LPumpCrossing;I[J)I"⟩
def dkwX0_law_0 : List UInt8 := [44, 3, 42, 27, 182, 0, 33, 133, 80, 167, 0, 6, 78, 4, 172, 3, 172]
abbrev dktX0_law_0 : List UInt8 := dkwX0_law_0 ++ []
theorem dksX0_law_0 : cX0_law.data.toList.drop 0 = dktX0_law_0 := by decide +kernel
theorem dX0_law_0 : decode cX0_law 0 = .ok (.aload_n 2, 1) := dk_44 (dk_at dksX0_law_0 0 rfl rfl)
theorem dX0_law_1 : decode cX0_law 1 = .ok (.iconst 0, 1) := dk_3 (dk_at dksX0_law_0 1 rfl rfl)
theorem dX0_law_2 : decode cX0_law 2 = .ok (.aload_n 0, 1) := dk_42 (dk_at dksX0_law_0 2 rfl rfl)
theorem dX0_law_3 : decode cX0_law 3 = .ok (.iload_n 1, 1) := dk_27 (dk_at dksX0_law_0 3 rfl rfl)
theorem dX0_law_4 : decode cX0_law 4 = .ok (.invokevirtual 33, 3) := dk_182 0 33 (dk_at dksX0_law_0 4 rfl rfl)
theorem dX0_law_7 : decode cX0_law 7 = .ok (.i2l, 1) := dk_133 (dk_at dksX0_law_0 7 rfl rfl)
theorem dX0_law_8 : decode cX0_law 8 = .ok (.lastore, 1) := dk_80 (dk_at dksX0_law_0 8 rfl rfl)
theorem dX0_law_9 : decode cX0_law 9 = .ok (.goto 6, 3) := dk_167 0 6 (dk_at dksX0_law_0 9 rfl rfl)
theorem dX0_law_12 : decode cX0_law 12 = .ok (.astore_n 3, 1) := dk_78 (dk_at dksX0_law_0 12 rfl rfl)
theorem dX0_law_13 : decode cX0_law 13 = .ok (.iconst 1, 1) := dk_4 (dk_at dksX0_law_0 13 rfl rfl)
theorem dX0_law_14 : decode cX0_law 14 = .ok (.ireturn, 1) := dk_172 (dk_at dksX0_law_0 14 rfl rfl)
theorem dX0_law_15 : decode cX0_law 15 = .ok (.iconst 0, 1) := dk_3 (dk_at dksX0_law_0 15 rfl rfl)
theorem dX0_law_16 : decode cX0_law 16 = .ok (.ireturn, 1) := dk_172 (dk_at dksX0_law_0 16 rfl rfl)
abbrev cX0_run : ByteArray := method_9_code
def yX0_run : MethodName := ⟨RX0, "run", "(LPumpCrossing;I[J)I"⟩
def dkwX0_run_0 : List UInt8 := [44, 3, 42, 27, 182, 0, 37, 133, 80, 167, 0, 6, 78, 4, 172, 3, 172]
abbrev dktX0_run_0 : List UInt8 := dkwX0_run_0 ++ []
theorem dksX0_run_0 : cX0_run.data.toList.drop 0 = dktX0_run_0 := by decide +kernel
theorem dX0_run_0 : decode cX0_run 0 = .ok (.aload_n 2, 1) := dk_44 (dk_at dksX0_run_0 0 rfl rfl)
theorem dX0_run_1 : decode cX0_run 1 = .ok (.iconst 0, 1) := dk_3 (dk_at dksX0_run_0 1 rfl rfl)
theorem dX0_run_2 : decode cX0_run 2 = .ok (.aload_n 0, 1) := dk_42 (dk_at dksX0_run_0 2 rfl rfl)
theorem dX0_run_3 : decode cX0_run 3 = .ok (.iload_n 1, 1) := dk_27 (dk_at dksX0_run_0 3 rfl rfl)
theorem dX0_run_4 : decode cX0_run 4 = .ok (.invokevirtual 37, 3) := dk_182 0 37 (dk_at dksX0_run_0 4 rfl rfl)
theorem dX0_run_7 : decode cX0_run 7 = .ok (.i2l, 1) := dk_133 (dk_at dksX0_run_0 7 rfl rfl)
theorem dX0_run_8 : decode cX0_run 8 = .ok (.lastore, 1) := dk_80 (dk_at dksX0_run_0 8 rfl rfl)
theorem dX0_run_9 : decode cX0_run 9 = .ok (.goto 6, 3) := dk_167 0 6 (dk_at dksX0_run_0 9 rfl rfl)
theorem dX0_run_12 : decode cX0_run 12 = .ok (.astore_n 3, 1) := dk_78 (dk_at dksX0_run_0 12 rfl rfl)
theorem dX0_run_13 : decode cX0_run 13 = .ok (.iconst 1, 1) := dk_4 (dk_at dksX0_run_0 13 rfl rfl)
theorem dX0_run_14 : decode cX0_run 14 = .ok (.ireturn, 1) := dk_172 (dk_at dksX0_run_0 14 rfl rfl)
theorem dX0_run_15 : decode cX0_run 15 = .ok (.iconst 0, 1) := dk_3 (dk_at dksX0_run_0 15 rfl rfl)
theorem dX0_run_16 : decode cX0_run 16 = .ok (.ireturn, 1) := dk_172 (dk_at dksX0_run_0 16 rfl rfl)
abbrev cX0_price : ByteArray := method_10_code
def yX0_price : MethodName := ⟨RX0, "price", "(LPumpCrossing;I[J)I"⟩
def dkwX0_price_0 : List UInt8 := [44, 3, 42, 27, 182, 0, 40, 133, 80, 167, 0, 6, 78, 4, 172, 3, 172]
abbrev dktX0_price_0 : List UInt8 := dkwX0_price_0 ++ []
theorem dksX0_price_0 : cX0_price.data.toList.drop 0 = dktX0_price_0 := by decide +kernel
theorem dX0_price_0 : decode cX0_price 0 = .ok (.aload_n 2, 1) := dk_44 (dk_at dksX0_price_0 0 rfl rfl)
theorem dX0_price_1 : decode cX0_price 1 = .ok (.iconst 0, 1) := dk_3 (dk_at dksX0_price_0 1 rfl rfl)
theorem dX0_price_2 : decode cX0_price 2 = .ok (.aload_n 0, 1) := dk_42 (dk_at dksX0_price_0 2 rfl rfl)
theorem dX0_price_3 : decode cX0_price 3 = .ok (.iload_n 1, 1) := dk_27 (dk_at dksX0_price_0 3 rfl rfl)
theorem dX0_price_4 : decode cX0_price 4 = .ok (.invokevirtual 40, 3) := dk_182 0 40 (dk_at dksX0_price_0 4 rfl rfl)
theorem dX0_price_7 : decode cX0_price 7 = .ok (.i2l, 1) := dk_133 (dk_at dksX0_price_0 7 rfl rfl)
theorem dX0_price_8 : decode cX0_price 8 = .ok (.lastore, 1) := dk_80 (dk_at dksX0_price_0 8 rfl rfl)
theorem dX0_price_9 : decode cX0_price 9 = .ok (.goto 6, 3) := dk_167 0 6 (dk_at dksX0_price_0 9 rfl rfl)
theorem dX0_price_12 : decode cX0_price 12 = .ok (.astore_n 3, 1) := dk_78 (dk_at dksX0_price_0 12 rfl rfl)
theorem dX0_price_13 : decode cX0_price 13 = .ok (.iconst 1, 1) := dk_4 (dk_at dksX0_price_0 13 rfl rfl)
theorem dX0_price_14 : decode cX0_price 14 = .ok (.ireturn, 1) := dk_172 (dk_at dksX0_price_0 14 rfl rfl)
theorem dX0_price_15 : decode cX0_price 15 = .ok (.iconst 0, 1) := dk_3 (dk_at dksX0_price_0 15 rfl rfl)
theorem dX0_price_16 : decode cX0_price 16 = .ok (.ireturn, 1) := dk_172 (dk_at dksX0_price_0 16 rfl rfl)
abbrev cX0_board : ByteArray := method_11_code
def yX0_board : MethodName := ⟨RX0, "board", "(LPumpCrossing;II[J)I"⟩
def dkwX0_board_0 : List UInt8 := [45, 3, 42, 27, 28, 182, 0, 43, 133, 80, 167, 0, 7, 58, 4, 4, 172, 3, 172]
abbrev dktX0_board_0 : List UInt8 := dkwX0_board_0 ++ []
theorem dksX0_board_0 : cX0_board.data.toList.drop 0 = dktX0_board_0 := by decide +kernel
theorem dX0_board_0 : decode cX0_board 0 = .ok (.aload_n 3, 1) := dk_45 (dk_at dksX0_board_0 0 rfl rfl)
theorem dX0_board_1 : decode cX0_board 1 = .ok (.iconst 0, 1) := dk_3 (dk_at dksX0_board_0 1 rfl rfl)
theorem dX0_board_2 : decode cX0_board 2 = .ok (.aload_n 0, 1) := dk_42 (dk_at dksX0_board_0 2 rfl rfl)
theorem dX0_board_3 : decode cX0_board 3 = .ok (.iload_n 1, 1) := dk_27 (dk_at dksX0_board_0 3 rfl rfl)
theorem dX0_board_4 : decode cX0_board 4 = .ok (.iload_n 2, 1) := dk_28 (dk_at dksX0_board_0 4 rfl rfl)
theorem dX0_board_5 : decode cX0_board 5 = .ok (.invokevirtual 43, 3) := dk_182 0 43 (dk_at dksX0_board_0 5 rfl rfl)
theorem dX0_board_8 : decode cX0_board 8 = .ok (.i2l, 1) := dk_133 (dk_at dksX0_board_0 8 rfl rfl)
theorem dX0_board_9 : decode cX0_board 9 = .ok (.lastore, 1) := dk_80 (dk_at dksX0_board_0 9 rfl rfl)
theorem dX0_board_10 : decode cX0_board 10 = .ok (.goto 7, 3) := dk_167 0 7 (dk_at dksX0_board_0 10 rfl rfl)
theorem dX0_board_13 : decode cX0_board 13 = .ok (.astore 4, 2) := dk_58 4 (dk_at dksX0_board_0 13 rfl rfl)
theorem dX0_board_15 : decode cX0_board 15 = .ok (.iconst 1, 1) := dk_4 (dk_at dksX0_board_0 15 rfl rfl)
theorem dX0_board_16 : decode cX0_board 16 = .ok (.ireturn, 1) := dk_172 (dk_at dksX0_board_0 16 rfl rfl)
theorem dX0_board_17 : decode cX0_board 17 = .ok (.iconst 0, 1) := dk_3 (dk_at dksX0_board_0 17 rfl rfl)
theorem dX0_board_18 : decode cX0_board 18 = .ok (.ireturn, 1) := dk_172 (dk_at dksX0_board_0 18 rfl rfl)
abbrev cX0_would : ByteArray := method_12_code
def yX0_would : MethodName := ⟨RX0, "would", "(LPumpCrossing;I[J)I"⟩
def dkwX0_would_0 : List UInt8 := [44, 3, 42, 27, 182, 0, 46, 133, 80, 167, 0, 6, 78, 4, 172, 3, 172]
abbrev dktX0_would_0 : List UInt8 := dkwX0_would_0 ++ []
theorem dksX0_would_0 : cX0_would.data.toList.drop 0 = dktX0_would_0 := by decide +kernel
theorem dX0_would_0 : decode cX0_would 0 = .ok (.aload_n 2, 1) := dk_44 (dk_at dksX0_would_0 0 rfl rfl)
theorem dX0_would_1 : decode cX0_would 1 = .ok (.iconst 0, 1) := dk_3 (dk_at dksX0_would_0 1 rfl rfl)
theorem dX0_would_2 : decode cX0_would 2 = .ok (.aload_n 0, 1) := dk_42 (dk_at dksX0_would_0 2 rfl rfl)
theorem dX0_would_3 : decode cX0_would 3 = .ok (.iload_n 1, 1) := dk_27 (dk_at dksX0_would_0 3 rfl rfl)
theorem dX0_would_4 : decode cX0_would 4 = .ok (.invokevirtual 46, 3) := dk_182 0 46 (dk_at dksX0_would_0 4 rfl rfl)
theorem dX0_would_7 : decode cX0_would 7 = .ok (.i2l, 1) := dk_133 (dk_at dksX0_would_0 7 rfl rfl)
theorem dX0_would_8 : decode cX0_would 8 = .ok (.lastore, 1) := dk_80 (dk_at dksX0_would_0 8 rfl rfl)
theorem dX0_would_9 : decode cX0_would 9 = .ok (.goto 6, 3) := dk_167 0 6 (dk_at dksX0_would_0 9 rfl rfl)
theorem dX0_would_12 : decode cX0_would 12 = .ok (.astore_n 3, 1) := dk_78 (dk_at dksX0_would_0 12 rfl rfl)
theorem dX0_would_13 : decode cX0_would 13 = .ok (.iconst 1, 1) := dk_4 (dk_at dksX0_would_0 13 rfl rfl)
theorem dX0_would_14 : decode cX0_would 14 = .ok (.ireturn, 1) := dk_172 (dk_at dksX0_would_0 14 rfl rfl)
theorem dX0_would_15 : decode cX0_would 15 = .ok (.iconst 0, 1) := dk_3 (dk_at dksX0_would_0 15 rfl rfl)
theorem dX0_would_16 : decode cX0_would 16 = .ok (.ireturn, 1) := dk_172 (dk_at dksX0_would_0 16 rfl rfl)
abbrev cX0_of : ByteArray := method_13_code
def yX0_of : MethodName := ⟨RX0, "of", "(LPumpCrossing;II[J)I"⟩
def dkwX0_of_0 : List UInt8 := [45, 3, 42, 27, 28, 182, 0, 49, 80, 167, 0, 11, 58, 4, 4, 172, 58, 4, 5, 172, 3, 172]
abbrev dktX0_of_0 : List UInt8 := dkwX0_of_0 ++ []
theorem dksX0_of_0 : cX0_of.data.toList.drop 0 = dktX0_of_0 := by decide +kernel
theorem dX0_of_0 : decode cX0_of 0 = .ok (.aload_n 3, 1) := dk_45 (dk_at dksX0_of_0 0 rfl rfl)
theorem dX0_of_1 : decode cX0_of 1 = .ok (.iconst 0, 1) := dk_3 (dk_at dksX0_of_0 1 rfl rfl)
theorem dX0_of_2 : decode cX0_of 2 = .ok (.aload_n 0, 1) := dk_42 (dk_at dksX0_of_0 2 rfl rfl)
theorem dX0_of_3 : decode cX0_of 3 = .ok (.iload_n 1, 1) := dk_27 (dk_at dksX0_of_0 3 rfl rfl)
theorem dX0_of_4 : decode cX0_of 4 = .ok (.iload_n 2, 1) := dk_28 (dk_at dksX0_of_0 4 rfl rfl)
theorem dX0_of_5 : decode cX0_of 5 = .ok (.invokevirtual 49, 3) := dk_182 0 49 (dk_at dksX0_of_0 5 rfl rfl)
theorem dX0_of_8 : decode cX0_of 8 = .ok (.lastore, 1) := dk_80 (dk_at dksX0_of_0 8 rfl rfl)
theorem dX0_of_9 : decode cX0_of 9 = .ok (.goto 11, 3) := dk_167 0 11 (dk_at dksX0_of_0 9 rfl rfl)
theorem dX0_of_12 : decode cX0_of 12 = .ok (.astore 4, 2) := dk_58 4 (dk_at dksX0_of_0 12 rfl rfl)
theorem dX0_of_14 : decode cX0_of 14 = .ok (.iconst 1, 1) := dk_4 (dk_at dksX0_of_0 14 rfl rfl)
theorem dX0_of_15 : decode cX0_of 15 = .ok (.ireturn, 1) := dk_172 (dk_at dksX0_of_0 15 rfl rfl)
theorem dX0_of_16 : decode cX0_of 16 = .ok (.astore 4, 2) := dk_58 4 (dk_at dksX0_of_0 16 rfl rfl)
theorem dX0_of_18 : decode cX0_of 18 = .ok (.iconst 2, 1) := dk_5 (dk_at dksX0_of_0 18 rfl rfl)
theorem dX0_of_19 : decode cX0_of 19 = .ok (.ireturn, 1) := dk_172 (dk_at dksX0_of_0 19 rfl rfl)
theorem dX0_of_20 : decode cX0_of 20 = .ok (.iconst 0, 1) := dk_3 (dk_at dksX0_of_0 20 rfl rfl)
theorem dX0_of_21 : decode cX0_of 21 = .ok (.ireturn, 1) := dk_172 (dk_at dksX0_of_0 21 rfl rfl)
abbrev cX0_fills : ByteArray := method_14_code
def yX0_fills : MethodName := ⟨RX0, "fills", "(LPumpCrossing;I[J)I"⟩
def dkwX0_fills_0 : List UInt8 := [44, 3, 42, 27, 182, 0, 53, 133, 80, 167, 0, 6, 78, 4, 172, 3, 172]
abbrev dktX0_fills_0 : List UInt8 := dkwX0_fills_0 ++ []
theorem dksX0_fills_0 : cX0_fills.data.toList.drop 0 = dktX0_fills_0 := by decide +kernel
theorem dX0_fills_0 : decode cX0_fills 0 = .ok (.aload_n 2, 1) := dk_44 (dk_at dksX0_fills_0 0 rfl rfl)
theorem dX0_fills_1 : decode cX0_fills 1 = .ok (.iconst 0, 1) := dk_3 (dk_at dksX0_fills_0 1 rfl rfl)
theorem dX0_fills_2 : decode cX0_fills 2 = .ok (.aload_n 0, 1) := dk_42 (dk_at dksX0_fills_0 2 rfl rfl)
theorem dX0_fills_3 : decode cX0_fills 3 = .ok (.iload_n 1, 1) := dk_27 (dk_at dksX0_fills_0 3 rfl rfl)
theorem dX0_fills_4 : decode cX0_fills 4 = .ok (.invokevirtual 53, 3) := dk_182 0 53 (dk_at dksX0_fills_0 4 rfl rfl)
theorem dX0_fills_7 : decode cX0_fills 7 = .ok (.i2l, 1) := dk_133 (dk_at dksX0_fills_0 7 rfl rfl)
theorem dX0_fills_8 : decode cX0_fills 8 = .ok (.lastore, 1) := dk_80 (dk_at dksX0_fills_0 8 rfl rfl)
theorem dX0_fills_9 : decode cX0_fills 9 = .ok (.goto 6, 3) := dk_167 0 6 (dk_at dksX0_fills_0 9 rfl rfl)
theorem dX0_fills_12 : decode cX0_fills 12 = .ok (.astore_n 3, 1) := dk_78 (dk_at dksX0_fills_0 12 rfl rfl)
theorem dX0_fills_13 : decode cX0_fills 13 = .ok (.iconst 1, 1) := dk_4 (dk_at dksX0_fills_0 13 rfl rfl)
theorem dX0_fills_14 : decode cX0_fills 14 = .ok (.ireturn, 1) := dk_172 (dk_at dksX0_fills_0 14 rfl rfl)
theorem dX0_fills_15 : decode cX0_fills 15 = .ok (.iconst 0, 1) := dk_3 (dk_at dksX0_fills_0 15 rfl rfl)
theorem dX0_fills_16 : decode cX0_fills 16 = .ok (.ireturn, 1) := dk_172 (dk_at dksX0_fills_0 16 rfl rfl)
abbrev cX0_leads : ByteArray := method_15_code
def yX0_leads : MethodName := ⟨RX0, "leads", "(LPumpCrossing;IZ[J)I"⟩
def dkwX0_leads_0 : List UInt8 := [45, 3, 42, 27, 28, 182, 0, 56, 133, 80, 167, 0, 7, 58, 4, 4, 172, 3, 172]
abbrev dktX0_leads_0 : List UInt8 := dkwX0_leads_0 ++ []
theorem dksX0_leads_0 : cX0_leads.data.toList.drop 0 = dktX0_leads_0 := by decide +kernel
theorem dX0_leads_0 : decode cX0_leads 0 = .ok (.aload_n 3, 1) := dk_45 (dk_at dksX0_leads_0 0 rfl rfl)
theorem dX0_leads_1 : decode cX0_leads 1 = .ok (.iconst 0, 1) := dk_3 (dk_at dksX0_leads_0 1 rfl rfl)
theorem dX0_leads_2 : decode cX0_leads 2 = .ok (.aload_n 0, 1) := dk_42 (dk_at dksX0_leads_0 2 rfl rfl)
theorem dX0_leads_3 : decode cX0_leads 3 = .ok (.iload_n 1, 1) := dk_27 (dk_at dksX0_leads_0 3 rfl rfl)
theorem dX0_leads_4 : decode cX0_leads 4 = .ok (.iload_n 2, 1) := dk_28 (dk_at dksX0_leads_0 4 rfl rfl)
theorem dX0_leads_5 : decode cX0_leads 5 = .ok (.invokevirtual 56, 3) := dk_182 0 56 (dk_at dksX0_leads_0 5 rfl rfl)
theorem dX0_leads_8 : decode cX0_leads 8 = .ok (.i2l, 1) := dk_133 (dk_at dksX0_leads_0 8 rfl rfl)
theorem dX0_leads_9 : decode cX0_leads 9 = .ok (.lastore, 1) := dk_80 (dk_at dksX0_leads_0 9 rfl rfl)
theorem dX0_leads_10 : decode cX0_leads 10 = .ok (.goto 7, 3) := dk_167 0 7 (dk_at dksX0_leads_0 10 rfl rfl)
theorem dX0_leads_13 : decode cX0_leads 13 = .ok (.astore 4, 2) := dk_58 4 (dk_at dksX0_leads_0 13 rfl rfl)
theorem dX0_leads_15 : decode cX0_leads 15 = .ok (.iconst 1, 1) := dk_4 (dk_at dksX0_leads_0 15 rfl rfl)
theorem dX0_leads_16 : decode cX0_leads 16 = .ok (.ireturn, 1) := dk_172 (dk_at dksX0_leads_0 16 rfl rfl)
theorem dX0_leads_17 : decode cX0_leads 17 = .ok (.iconst 0, 1) := dk_3 (dk_at dksX0_leads_0 17 rfl rfl)
theorem dX0_leads_18 : decode cX0_leads 18 = .ok (.ireturn, 1) := dk_172 (dk_at dksX0_leads_0 18 rfl rfl)
abbrev cX0_passed : ByteArray := method_16_code
def yX0_passed : MethodName := ⟨RX0, "passed", "(LPumpCrossing;IIZ[J)I"⟩
def dkwX0_passed_1 : List UInt8 := [4, 172, 58, 5, 5, 172, 3, 172]
abbrev dktX0_passed_1 : List UInt8 := dkwX0_passed_1 ++ []
def dkwX0_passed_0 : List UInt8 := [25, 4, 3, 42, 27, 28, 29, 182, 0, 60, 153, 0, 7, 10, 167, 0, 4, 9, 80, 167, 0, 11, 58, 5]
abbrev dktX0_passed_0 : List UInt8 := dkwX0_passed_0 ++ dktX0_passed_1
theorem dksX0_passed_0 : cX0_passed.data.toList.drop 0 = dktX0_passed_0 := by decide +kernel
theorem dksX0_passed_1 : cX0_passed.data.toList.drop 24 = dktX0_passed_1 := dk_seg dksX0_passed_0 24 rfl rfl
theorem dX0_passed_0 : decode cX0_passed 0 = .ok (.aload 4, 2) := dk_25 4 (dk_at dksX0_passed_0 0 rfl rfl)
theorem dX0_passed_2 : decode cX0_passed 2 = .ok (.iconst 0, 1) := dk_3 (dk_at dksX0_passed_0 2 rfl rfl)
theorem dX0_passed_3 : decode cX0_passed 3 = .ok (.aload_n 0, 1) := dk_42 (dk_at dksX0_passed_0 3 rfl rfl)
theorem dX0_passed_4 : decode cX0_passed 4 = .ok (.iload_n 1, 1) := dk_27 (dk_at dksX0_passed_0 4 rfl rfl)
theorem dX0_passed_5 : decode cX0_passed 5 = .ok (.iload_n 2, 1) := dk_28 (dk_at dksX0_passed_0 5 rfl rfl)
theorem dX0_passed_6 : decode cX0_passed 6 = .ok (.iload_n 3, 1) := dk_29 (dk_at dksX0_passed_0 6 rfl rfl)
theorem dX0_passed_7 : decode cX0_passed 7 = .ok (.invokevirtual 60, 3) := dk_182 0 60 (dk_at dksX0_passed_0 7 rfl rfl)
theorem dX0_passed_10 : decode cX0_passed 10 = .ok (.ifCond .eq 7, 3) := dk_153 0 7 (dk_at dksX0_passed_0 10 rfl rfl)
theorem dX0_passed_13 : decode cX0_passed 13 = .ok (.lconst 1, 1) := dk_10 (dk_at dksX0_passed_0 13 rfl rfl)
theorem dX0_passed_14 : decode cX0_passed 14 = .ok (.goto 4, 3) := dk_167 0 4 (dk_at dksX0_passed_0 14 rfl rfl)
theorem dX0_passed_17 : decode cX0_passed 17 = .ok (.lconst 0, 1) := dk_9 (dk_at dksX0_passed_0 17 rfl rfl)
theorem dX0_passed_18 : decode cX0_passed 18 = .ok (.lastore, 1) := dk_80 (dk_at dksX0_passed_0 18 rfl rfl)
theorem dX0_passed_19 : decode cX0_passed 19 = .ok (.goto 11, 3) := dk_167 0 11 (dk_at dksX0_passed_0 19 rfl rfl)
theorem dX0_passed_22 : decode cX0_passed 22 = .ok (.astore 5, 2) := dk_58 5 (dk_at dksX0_passed_0 22 rfl rfl)
theorem dX0_passed_24 : decode cX0_passed 24 = .ok (.iconst 1, 1) := dk_4 (dk_at dksX0_passed_1 0 rfl rfl)
theorem dX0_passed_25 : decode cX0_passed 25 = .ok (.ireturn, 1) := dk_172 (dk_at dksX0_passed_1 1 rfl rfl)
theorem dX0_passed_26 : decode cX0_passed 26 = .ok (.astore 5, 2) := dk_58 5 (dk_at dksX0_passed_1 2 rfl rfl)
theorem dX0_passed_28 : decode cX0_passed 28 = .ok (.iconst 2, 1) := dk_5 (dk_at dksX0_passed_1 4 rfl rfl)
theorem dX0_passed_29 : decode cX0_passed 29 = .ok (.ireturn, 1) := dk_172 (dk_at dksX0_passed_1 5 rfl rfl)
theorem dX0_passed_30 : decode cX0_passed 30 = .ok (.iconst 0, 1) := dk_3 (dk_at dksX0_passed_1 6 rfl rfl)
theorem dX0_passed_31 : decode cX0_passed 31 = .ok (.ireturn, 1) := dk_172 (dk_at dksX0_passed_1 7 rfl rfl)
abbrev cX0_level : ByteArray := method_17_code
def yX0_level : MethodName := ⟨RX0, "level", "(LPumpCrossing;I[J)I"⟩
def dkwX0_level_0 : List UInt8 := [44, 3, 42, 27, 182, 0, 64, 133, 80, 167, 0, 6, 78, 4, 172, 3, 172]
abbrev dktX0_level_0 : List UInt8 := dkwX0_level_0 ++ []
theorem dksX0_level_0 : cX0_level.data.toList.drop 0 = dktX0_level_0 := by decide +kernel
theorem dX0_level_0 : decode cX0_level 0 = .ok (.aload_n 2, 1) := dk_44 (dk_at dksX0_level_0 0 rfl rfl)
theorem dX0_level_1 : decode cX0_level 1 = .ok (.iconst 0, 1) := dk_3 (dk_at dksX0_level_0 1 rfl rfl)
theorem dX0_level_2 : decode cX0_level 2 = .ok (.aload_n 0, 1) := dk_42 (dk_at dksX0_level_0 2 rfl rfl)
theorem dX0_level_3 : decode cX0_level 3 = .ok (.iload_n 1, 1) := dk_27 (dk_at dksX0_level_0 3 rfl rfl)
theorem dX0_level_4 : decode cX0_level 4 = .ok (.invokevirtual 64, 3) := dk_182 0 64 (dk_at dksX0_level_0 4 rfl rfl)
theorem dX0_level_7 : decode cX0_level 7 = .ok (.i2l, 1) := dk_133 (dk_at dksX0_level_0 7 rfl rfl)
theorem dX0_level_8 : decode cX0_level 8 = .ok (.lastore, 1) := dk_80 (dk_at dksX0_level_0 8 rfl rfl)
theorem dX0_level_9 : decode cX0_level 9 = .ok (.goto 6, 3) := dk_167 0 6 (dk_at dksX0_level_0 9 rfl rfl)
theorem dX0_level_12 : decode cX0_level 12 = .ok (.astore_n 3, 1) := dk_78 (dk_at dksX0_level_0 12 rfl rfl)
theorem dX0_level_13 : decode cX0_level 13 = .ok (.iconst 1, 1) := dk_4 (dk_at dksX0_level_0 13 rfl rfl)
theorem dX0_level_14 : decode cX0_level 14 = .ok (.ireturn, 1) := dk_172 (dk_at dksX0_level_0 14 rfl rfl)
theorem dX0_level_15 : decode cX0_level 15 = .ok (.iconst 0, 1) := dk_3 (dk_at dksX0_level_0 15 rfl rfl)
theorem dX0_level_16 : decode cX0_level 16 = .ok (.ireturn, 1) := dk_172 (dk_at dksX0_level_0 16 rfl rfl)
abbrev cX0_gain : ByteArray := method_18_code
def yX0_gain : MethodName := ⟨RX0, "gain", "(LPumpCrossing;IIIIZ[J)I"⟩
def dkwX0_gain_1 : List UInt8 := [58, 7, 5, 172, 58, 7, 6, 172, 3, 172]
abbrev dktX0_gain_1 : List UInt8 := dkwX0_gain_1 ++ []
def dkwX0_gain_0 : List UInt8 := [25, 6, 3, 42, 27, 28, 29, 21, 4, 21, 5, 182, 0, 67, 133, 80, 167, 0, 15, 58, 7, 4, 172]
abbrev dktX0_gain_0 : List UInt8 := dkwX0_gain_0 ++ dktX0_gain_1
theorem dksX0_gain_0 : cX0_gain.data.toList.drop 0 = dktX0_gain_0 := by decide +kernel
theorem dksX0_gain_1 : cX0_gain.data.toList.drop 23 = dktX0_gain_1 := dk_seg dksX0_gain_0 23 rfl rfl
theorem dX0_gain_0 : decode cX0_gain 0 = .ok (.aload 6, 2) := dk_25 6 (dk_at dksX0_gain_0 0 rfl rfl)
theorem dX0_gain_2 : decode cX0_gain 2 = .ok (.iconst 0, 1) := dk_3 (dk_at dksX0_gain_0 2 rfl rfl)
theorem dX0_gain_3 : decode cX0_gain 3 = .ok (.aload_n 0, 1) := dk_42 (dk_at dksX0_gain_0 3 rfl rfl)
theorem dX0_gain_4 : decode cX0_gain 4 = .ok (.iload_n 1, 1) := dk_27 (dk_at dksX0_gain_0 4 rfl rfl)
theorem dX0_gain_5 : decode cX0_gain 5 = .ok (.iload_n 2, 1) := dk_28 (dk_at dksX0_gain_0 5 rfl rfl)
theorem dX0_gain_6 : decode cX0_gain 6 = .ok (.iload_n 3, 1) := dk_29 (dk_at dksX0_gain_0 6 rfl rfl)
theorem dX0_gain_7 : decode cX0_gain 7 = .ok (.iload 4, 2) := dk_21 4 (dk_at dksX0_gain_0 7 rfl rfl)
theorem dX0_gain_9 : decode cX0_gain 9 = .ok (.iload 5, 2) := dk_21 5 (dk_at dksX0_gain_0 9 rfl rfl)
theorem dX0_gain_11 : decode cX0_gain 11 = .ok (.invokevirtual 67, 3) := dk_182 0 67 (dk_at dksX0_gain_0 11 rfl rfl)
theorem dX0_gain_14 : decode cX0_gain 14 = .ok (.i2l, 1) := dk_133 (dk_at dksX0_gain_0 14 rfl rfl)
theorem dX0_gain_15 : decode cX0_gain 15 = .ok (.lastore, 1) := dk_80 (dk_at dksX0_gain_0 15 rfl rfl)
theorem dX0_gain_16 : decode cX0_gain 16 = .ok (.goto 15, 3) := dk_167 0 15 (dk_at dksX0_gain_0 16 rfl rfl)
theorem dX0_gain_19 : decode cX0_gain 19 = .ok (.astore 7, 2) := dk_58 7 (dk_at dksX0_gain_0 19 rfl rfl)
theorem dX0_gain_21 : decode cX0_gain 21 = .ok (.iconst 1, 1) := dk_4 (dk_at dksX0_gain_0 21 rfl rfl)
theorem dX0_gain_22 : decode cX0_gain 22 = .ok (.ireturn, 1) := dk_172 (dk_at dksX0_gain_0 22 rfl rfl)
theorem dX0_gain_23 : decode cX0_gain 23 = .ok (.astore 7, 2) := dk_58 7 (dk_at dksX0_gain_1 0 rfl rfl)
theorem dX0_gain_25 : decode cX0_gain 25 = .ok (.iconst 2, 1) := dk_5 (dk_at dksX0_gain_1 2 rfl rfl)
theorem dX0_gain_26 : decode cX0_gain 26 = .ok (.ireturn, 1) := dk_172 (dk_at dksX0_gain_1 3 rfl rfl)
theorem dX0_gain_27 : decode cX0_gain 27 = .ok (.astore 7, 2) := dk_58 7 (dk_at dksX0_gain_1 4 rfl rfl)
theorem dX0_gain_29 : decode cX0_gain 29 = .ok (.iconst 3, 1) := dk_6 (dk_at dksX0_gain_1 6 rfl rfl)
theorem dX0_gain_30 : decode cX0_gain 30 = .ok (.ireturn, 1) := dk_172 (dk_at dksX0_gain_1 7 rfl rfl)
theorem dX0_gain_31 : decode cX0_gain 31 = .ok (.iconst 0, 1) := dk_3 (dk_at dksX0_gain_1 8 rfl rfl)
theorem dX0_gain_32 : decode cX0_gain 32 = .ok (.ireturn, 1) := dk_172 (dk_at dksX0_gain_1 9 rfl rfl)
abbrev cX0_reply : ByteArray := method_19_code
def yX0_reply : MethodName := ⟨RX0, "reply", "(LPumpCrossing;III[J)I"⟩
def dkwX0_reply_1 : List UInt8 := [58, 5, 6, 172, 3, 172]
abbrev dktX0_reply_1 : List UInt8 := dkwX0_reply_1 ++ []
def dkwX0_reply_0 : List UInt8 := [25, 4, 3, 42, 27, 28, 29, 182, 0, 73, 133, 80, 167, 0, 15, 58, 5, 4, 172, 58, 5, 5, 172]
abbrev dktX0_reply_0 : List UInt8 := dkwX0_reply_0 ++ dktX0_reply_1
theorem dksX0_reply_0 : cX0_reply.data.toList.drop 0 = dktX0_reply_0 := by decide +kernel
theorem dksX0_reply_1 : cX0_reply.data.toList.drop 23 = dktX0_reply_1 := dk_seg dksX0_reply_0 23 rfl rfl
theorem dX0_reply_0 : decode cX0_reply 0 = .ok (.aload 4, 2) := dk_25 4 (dk_at dksX0_reply_0 0 rfl rfl)
theorem dX0_reply_2 : decode cX0_reply 2 = .ok (.iconst 0, 1) := dk_3 (dk_at dksX0_reply_0 2 rfl rfl)
theorem dX0_reply_3 : decode cX0_reply 3 = .ok (.aload_n 0, 1) := dk_42 (dk_at dksX0_reply_0 3 rfl rfl)
theorem dX0_reply_4 : decode cX0_reply 4 = .ok (.iload_n 1, 1) := dk_27 (dk_at dksX0_reply_0 4 rfl rfl)
theorem dX0_reply_5 : decode cX0_reply 5 = .ok (.iload_n 2, 1) := dk_28 (dk_at dksX0_reply_0 5 rfl rfl)
theorem dX0_reply_6 : decode cX0_reply 6 = .ok (.iload_n 3, 1) := dk_29 (dk_at dksX0_reply_0 6 rfl rfl)
theorem dX0_reply_7 : decode cX0_reply 7 = .ok (.invokevirtual 73, 3) := dk_182 0 73 (dk_at dksX0_reply_0 7 rfl rfl)
theorem dX0_reply_10 : decode cX0_reply 10 = .ok (.i2l, 1) := dk_133 (dk_at dksX0_reply_0 10 rfl rfl)
theorem dX0_reply_11 : decode cX0_reply 11 = .ok (.lastore, 1) := dk_80 (dk_at dksX0_reply_0 11 rfl rfl)
theorem dX0_reply_12 : decode cX0_reply 12 = .ok (.goto 15, 3) := dk_167 0 15 (dk_at dksX0_reply_0 12 rfl rfl)
theorem dX0_reply_15 : decode cX0_reply 15 = .ok (.astore 5, 2) := dk_58 5 (dk_at dksX0_reply_0 15 rfl rfl)
theorem dX0_reply_17 : decode cX0_reply 17 = .ok (.iconst 1, 1) := dk_4 (dk_at dksX0_reply_0 17 rfl rfl)
theorem dX0_reply_18 : decode cX0_reply 18 = .ok (.ireturn, 1) := dk_172 (dk_at dksX0_reply_0 18 rfl rfl)
theorem dX0_reply_19 : decode cX0_reply 19 = .ok (.astore 5, 2) := dk_58 5 (dk_at dksX0_reply_0 19 rfl rfl)
theorem dX0_reply_21 : decode cX0_reply 21 = .ok (.iconst 2, 1) := dk_5 (dk_at dksX0_reply_0 21 rfl rfl)
theorem dX0_reply_22 : decode cX0_reply 22 = .ok (.ireturn, 1) := dk_172 (dk_at dksX0_reply_0 22 rfl rfl)
theorem dX0_reply_23 : decode cX0_reply 23 = .ok (.astore 5, 2) := dk_58 5 (dk_at dksX0_reply_1 0 rfl rfl)
theorem dX0_reply_25 : decode cX0_reply 25 = .ok (.iconst 3, 1) := dk_6 (dk_at dksX0_reply_1 2 rfl rfl)
theorem dX0_reply_26 : decode cX0_reply 26 = .ok (.ireturn, 1) := dk_172 (dk_at dksX0_reply_1 3 rfl rfl)
theorem dX0_reply_27 : decode cX0_reply 27 = .ok (.iconst 0, 1) := dk_3 (dk_at dksX0_reply_1 4 rfl rfl)
theorem dX0_reply_28 : decode cX0_reply 28 = .ok (.ireturn, 1) := dk_172 (dk_at dksX0_reply_1 5 rfl rfl)
abbrev cX0_even : ByteArray := method_20_code
def yX0_even : MethodName := ⟨RX0, "even", "(LPumpCrossing;III[J)I"⟩
def dkwX0_even_1 : List UInt8 := [172]
abbrev dktX0_even_1 : List UInt8 := dkwX0_even_1 ++ []
def dkwX0_even_0 : List UInt8 := [25, 4, 3, 42, 27, 28, 29, 182, 0, 76, 133, 80, 167, 0, 11, 58, 5, 4, 172, 58, 5, 5, 172, 3]
abbrev dktX0_even_0 : List UInt8 := dkwX0_even_0 ++ dktX0_even_1
theorem dksX0_even_0 : cX0_even.data.toList.drop 0 = dktX0_even_0 := by decide +kernel
theorem dksX0_even_1 : cX0_even.data.toList.drop 24 = dktX0_even_1 := dk_seg dksX0_even_0 24 rfl rfl
theorem dX0_even_0 : decode cX0_even 0 = .ok (.aload 4, 2) := dk_25 4 (dk_at dksX0_even_0 0 rfl rfl)
theorem dX0_even_2 : decode cX0_even 2 = .ok (.iconst 0, 1) := dk_3 (dk_at dksX0_even_0 2 rfl rfl)
theorem dX0_even_3 : decode cX0_even 3 = .ok (.aload_n 0, 1) := dk_42 (dk_at dksX0_even_0 3 rfl rfl)
theorem dX0_even_4 : decode cX0_even 4 = .ok (.iload_n 1, 1) := dk_27 (dk_at dksX0_even_0 4 rfl rfl)
theorem dX0_even_5 : decode cX0_even 5 = .ok (.iload_n 2, 1) := dk_28 (dk_at dksX0_even_0 5 rfl rfl)
theorem dX0_even_6 : decode cX0_even 6 = .ok (.iload_n 3, 1) := dk_29 (dk_at dksX0_even_0 6 rfl rfl)
theorem dX0_even_7 : decode cX0_even 7 = .ok (.invokevirtual 76, 3) := dk_182 0 76 (dk_at dksX0_even_0 7 rfl rfl)
theorem dX0_even_10 : decode cX0_even 10 = .ok (.i2l, 1) := dk_133 (dk_at dksX0_even_0 10 rfl rfl)
theorem dX0_even_11 : decode cX0_even 11 = .ok (.lastore, 1) := dk_80 (dk_at dksX0_even_0 11 rfl rfl)
theorem dX0_even_12 : decode cX0_even 12 = .ok (.goto 11, 3) := dk_167 0 11 (dk_at dksX0_even_0 12 rfl rfl)
theorem dX0_even_15 : decode cX0_even 15 = .ok (.astore 5, 2) := dk_58 5 (dk_at dksX0_even_0 15 rfl rfl)
theorem dX0_even_17 : decode cX0_even 17 = .ok (.iconst 1, 1) := dk_4 (dk_at dksX0_even_0 17 rfl rfl)
theorem dX0_even_18 : decode cX0_even 18 = .ok (.ireturn, 1) := dk_172 (dk_at dksX0_even_0 18 rfl rfl)
theorem dX0_even_19 : decode cX0_even 19 = .ok (.astore 5, 2) := dk_58 5 (dk_at dksX0_even_0 19 rfl rfl)
theorem dX0_even_21 : decode cX0_even 21 = .ok (.iconst 2, 1) := dk_5 (dk_at dksX0_even_0 21 rfl rfl)
theorem dX0_even_22 : decode cX0_even 22 = .ok (.ireturn, 1) := dk_172 (dk_at dksX0_even_0 22 rfl rfl)
theorem dX0_even_23 : decode cX0_even 23 = .ok (.iconst 0, 1) := dk_3 (dk_at dksX0_even_0 23 rfl rfl)
theorem dX0_even_24 : decode cX0_even 24 = .ok (.ireturn, 1) := dk_172 (dk_at dksX0_even_1 0 rfl rfl)
abbrev cX0_joint : ByteArray := method_21_code
def yX0_joint : MethodName := ⟨RX0, "joint", "(LPumpCrossing;II[J)I"⟩
def dkwX0_joint_0 : List UInt8 := [45, 3, 42, 27, 28, 182, 0, 79, 133, 80, 167, 0, 11, 58, 4, 4, 172, 58, 4, 5, 172, 3, 172]
abbrev dktX0_joint_0 : List UInt8 := dkwX0_joint_0 ++ []
theorem dksX0_joint_0 : cX0_joint.data.toList.drop 0 = dktX0_joint_0 := by decide +kernel
theorem dX0_joint_0 : decode cX0_joint 0 = .ok (.aload_n 3, 1) := dk_45 (dk_at dksX0_joint_0 0 rfl rfl)
theorem dX0_joint_1 : decode cX0_joint 1 = .ok (.iconst 0, 1) := dk_3 (dk_at dksX0_joint_0 1 rfl rfl)
theorem dX0_joint_2 : decode cX0_joint 2 = .ok (.aload_n 0, 1) := dk_42 (dk_at dksX0_joint_0 2 rfl rfl)
theorem dX0_joint_3 : decode cX0_joint 3 = .ok (.iload_n 1, 1) := dk_27 (dk_at dksX0_joint_0 3 rfl rfl)
theorem dX0_joint_4 : decode cX0_joint 4 = .ok (.iload_n 2, 1) := dk_28 (dk_at dksX0_joint_0 4 rfl rfl)
theorem dX0_joint_5 : decode cX0_joint 5 = .ok (.invokevirtual 79, 3) := dk_182 0 79 (dk_at dksX0_joint_0 5 rfl rfl)
theorem dX0_joint_8 : decode cX0_joint 8 = .ok (.i2l, 1) := dk_133 (dk_at dksX0_joint_0 8 rfl rfl)
theorem dX0_joint_9 : decode cX0_joint 9 = .ok (.lastore, 1) := dk_80 (dk_at dksX0_joint_0 9 rfl rfl)
theorem dX0_joint_10 : decode cX0_joint 10 = .ok (.goto 11, 3) := dk_167 0 11 (dk_at dksX0_joint_0 10 rfl rfl)
theorem dX0_joint_13 : decode cX0_joint 13 = .ok (.astore 4, 2) := dk_58 4 (dk_at dksX0_joint_0 13 rfl rfl)
theorem dX0_joint_15 : decode cX0_joint 15 = .ok (.iconst 1, 1) := dk_4 (dk_at dksX0_joint_0 15 rfl rfl)
theorem dX0_joint_16 : decode cX0_joint 16 = .ok (.ireturn, 1) := dk_172 (dk_at dksX0_joint_0 16 rfl rfl)
theorem dX0_joint_17 : decode cX0_joint 17 = .ok (.astore 4, 2) := dk_58 4 (dk_at dksX0_joint_0 17 rfl rfl)
theorem dX0_joint_19 : decode cX0_joint 19 = .ok (.iconst 2, 1) := dk_5 (dk_at dksX0_joint_0 19 rfl rfl)
theorem dX0_joint_20 : decode cX0_joint 20 = .ok (.ireturn, 1) := dk_172 (dk_at dksX0_joint_0 20 rfl rfl)
theorem dX0_joint_21 : decode cX0_joint 21 = .ok (.iconst 0, 1) := dk_3 (dk_at dksX0_joint_0 21 rfl rfl)
theorem dX0_joint_22 : decode cX0_joint 22 = .ok (.ireturn, 1) := dk_172 (dk_at dksX0_joint_0 22 rfl rfl)
abbrev cX0_turn : ByteArray := method_22_code
def yX0_turn : MethodName := ⟨RX0, "turn", "(LPumpCrossing;IIIII[J)I"⟩
def dkwX0_turn_1 : List UInt8 := [58, 7, 5, 172, 58, 7, 6, 172, 3, 172]
abbrev dktX0_turn_1 : List UInt8 := dkwX0_turn_1 ++ []
def dkwX0_turn_0 : List UInt8 := [25, 6, 3, 42, 27, 28, 29, 21, 4, 21, 5, 182, 0, 82, 133, 80, 167, 0, 15, 58, 7, 4, 172]
abbrev dktX0_turn_0 : List UInt8 := dkwX0_turn_0 ++ dktX0_turn_1
theorem dksX0_turn_0 : cX0_turn.data.toList.drop 0 = dktX0_turn_0 := by decide +kernel
theorem dksX0_turn_1 : cX0_turn.data.toList.drop 23 = dktX0_turn_1 := dk_seg dksX0_turn_0 23 rfl rfl
theorem dX0_turn_0 : decode cX0_turn 0 = .ok (.aload 6, 2) := dk_25 6 (dk_at dksX0_turn_0 0 rfl rfl)
theorem dX0_turn_2 : decode cX0_turn 2 = .ok (.iconst 0, 1) := dk_3 (dk_at dksX0_turn_0 2 rfl rfl)
theorem dX0_turn_3 : decode cX0_turn 3 = .ok (.aload_n 0, 1) := dk_42 (dk_at dksX0_turn_0 3 rfl rfl)
theorem dX0_turn_4 : decode cX0_turn 4 = .ok (.iload_n 1, 1) := dk_27 (dk_at dksX0_turn_0 4 rfl rfl)
theorem dX0_turn_5 : decode cX0_turn 5 = .ok (.iload_n 2, 1) := dk_28 (dk_at dksX0_turn_0 5 rfl rfl)
theorem dX0_turn_6 : decode cX0_turn 6 = .ok (.iload_n 3, 1) := dk_29 (dk_at dksX0_turn_0 6 rfl rfl)
theorem dX0_turn_7 : decode cX0_turn 7 = .ok (.iload 4, 2) := dk_21 4 (dk_at dksX0_turn_0 7 rfl rfl)
theorem dX0_turn_9 : decode cX0_turn 9 = .ok (.iload 5, 2) := dk_21 5 (dk_at dksX0_turn_0 9 rfl rfl)
theorem dX0_turn_11 : decode cX0_turn 11 = .ok (.invokevirtual 82, 3) := dk_182 0 82 (dk_at dksX0_turn_0 11 rfl rfl)
theorem dX0_turn_14 : decode cX0_turn 14 = .ok (.i2l, 1) := dk_133 (dk_at dksX0_turn_0 14 rfl rfl)
theorem dX0_turn_15 : decode cX0_turn 15 = .ok (.lastore, 1) := dk_80 (dk_at dksX0_turn_0 15 rfl rfl)
theorem dX0_turn_16 : decode cX0_turn 16 = .ok (.goto 15, 3) := dk_167 0 15 (dk_at dksX0_turn_0 16 rfl rfl)
theorem dX0_turn_19 : decode cX0_turn 19 = .ok (.astore 7, 2) := dk_58 7 (dk_at dksX0_turn_0 19 rfl rfl)
theorem dX0_turn_21 : decode cX0_turn 21 = .ok (.iconst 1, 1) := dk_4 (dk_at dksX0_turn_0 21 rfl rfl)
theorem dX0_turn_22 : decode cX0_turn 22 = .ok (.ireturn, 1) := dk_172 (dk_at dksX0_turn_0 22 rfl rfl)
theorem dX0_turn_23 : decode cX0_turn 23 = .ok (.astore 7, 2) := dk_58 7 (dk_at dksX0_turn_1 0 rfl rfl)
theorem dX0_turn_25 : decode cX0_turn 25 = .ok (.iconst 2, 1) := dk_5 (dk_at dksX0_turn_1 2 rfl rfl)
theorem dX0_turn_26 : decode cX0_turn 26 = .ok (.ireturn, 1) := dk_172 (dk_at dksX0_turn_1 3 rfl rfl)
theorem dX0_turn_27 : decode cX0_turn 27 = .ok (.astore 7, 2) := dk_58 7 (dk_at dksX0_turn_1 4 rfl rfl)
theorem dX0_turn_29 : decode cX0_turn 29 = .ok (.iconst 3, 1) := dk_6 (dk_at dksX0_turn_1 6 rfl rfl)
theorem dX0_turn_30 : decode cX0_turn 30 = .ok (.ireturn, 1) := dk_172 (dk_at dksX0_turn_1 7 rfl rfl)
theorem dX0_turn_31 : decode cX0_turn 31 = .ok (.iconst 0, 1) := dk_3 (dk_at dksX0_turn_1 8 rfl rfl)
theorem dX0_turn_32 : decode cX0_turn 32 = .ok (.ireturn, 1) := dk_172 (dk_at dksX0_turn_1 9 rfl rfl)
abbrev cX0_gains : ByteArray := method_23_code
def yX0_gains : MethodName := ⟨RX0, "gains", "(LPumpCrossing;IIIIZ[J)I"⟩
def dkwX0_gains_1 : List UInt8 := [5, 172, 58, 7, 6, 172, 3, 172]
abbrev dktX0_gains_1 : List UInt8 := dkwX0_gains_1 ++ []
def dkwX0_gains_0 : List UInt8 := [25, 6, 3, 42, 27, 28, 29, 21, 4, 21, 5, 182, 0, 86, 80, 167, 0, 15, 58, 7, 4, 172, 58, 7]
abbrev dktX0_gains_0 : List UInt8 := dkwX0_gains_0 ++ dktX0_gains_1
theorem dksX0_gains_0 : cX0_gains.data.toList.drop 0 = dktX0_gains_0 := by decide +kernel
theorem dksX0_gains_1 : cX0_gains.data.toList.drop 24 = dktX0_gains_1 := dk_seg dksX0_gains_0 24 rfl rfl
theorem dX0_gains_0 : decode cX0_gains 0 = .ok (.aload 6, 2) := dk_25 6 (dk_at dksX0_gains_0 0 rfl rfl)
theorem dX0_gains_2 : decode cX0_gains 2 = .ok (.iconst 0, 1) := dk_3 (dk_at dksX0_gains_0 2 rfl rfl)
theorem dX0_gains_3 : decode cX0_gains 3 = .ok (.aload_n 0, 1) := dk_42 (dk_at dksX0_gains_0 3 rfl rfl)
theorem dX0_gains_4 : decode cX0_gains 4 = .ok (.iload_n 1, 1) := dk_27 (dk_at dksX0_gains_0 4 rfl rfl)
theorem dX0_gains_5 : decode cX0_gains 5 = .ok (.iload_n 2, 1) := dk_28 (dk_at dksX0_gains_0 5 rfl rfl)
theorem dX0_gains_6 : decode cX0_gains 6 = .ok (.iload_n 3, 1) := dk_29 (dk_at dksX0_gains_0 6 rfl rfl)
theorem dX0_gains_7 : decode cX0_gains 7 = .ok (.iload 4, 2) := dk_21 4 (dk_at dksX0_gains_0 7 rfl rfl)
theorem dX0_gains_9 : decode cX0_gains 9 = .ok (.iload 5, 2) := dk_21 5 (dk_at dksX0_gains_0 9 rfl rfl)
theorem dX0_gains_11 : decode cX0_gains 11 = .ok (.invokevirtual 86, 3) := dk_182 0 86 (dk_at dksX0_gains_0 11 rfl rfl)
theorem dX0_gains_14 : decode cX0_gains 14 = .ok (.lastore, 1) := dk_80 (dk_at dksX0_gains_0 14 rfl rfl)
theorem dX0_gains_15 : decode cX0_gains 15 = .ok (.goto 15, 3) := dk_167 0 15 (dk_at dksX0_gains_0 15 rfl rfl)
theorem dX0_gains_18 : decode cX0_gains 18 = .ok (.astore 7, 2) := dk_58 7 (dk_at dksX0_gains_0 18 rfl rfl)
theorem dX0_gains_20 : decode cX0_gains 20 = .ok (.iconst 1, 1) := dk_4 (dk_at dksX0_gains_0 20 rfl rfl)
theorem dX0_gains_21 : decode cX0_gains 21 = .ok (.ireturn, 1) := dk_172 (dk_at dksX0_gains_0 21 rfl rfl)
theorem dX0_gains_22 : decode cX0_gains 22 = .ok (.astore 7, 2) := dk_58 7 (dk_at dksX0_gains_0 22 rfl rfl)
theorem dX0_gains_24 : decode cX0_gains 24 = .ok (.iconst 2, 1) := dk_5 (dk_at dksX0_gains_1 0 rfl rfl)
theorem dX0_gains_25 : decode cX0_gains 25 = .ok (.ireturn, 1) := dk_172 (dk_at dksX0_gains_1 1 rfl rfl)
theorem dX0_gains_26 : decode cX0_gains 26 = .ok (.astore 7, 2) := dk_58 7 (dk_at dksX0_gains_1 2 rfl rfl)
theorem dX0_gains_28 : decode cX0_gains 28 = .ok (.iconst 3, 1) := dk_6 (dk_at dksX0_gains_1 4 rfl rfl)
theorem dX0_gains_29 : decode cX0_gains 29 = .ok (.ireturn, 1) := dk_172 (dk_at dksX0_gains_1 5 rfl rfl)
theorem dX0_gains_30 : decode cX0_gains 30 = .ok (.iconst 0, 1) := dk_3 (dk_at dksX0_gains_1 6 rfl rfl)
theorem dX0_gains_31 : decode cX0_gains 31 = .ok (.ireturn, 1) := dk_172 (dk_at dksX0_gains_1 7 rfl rfl)
abbrev cX0_learn : ByteArray := method_24_code
def yX0_learn : MethodName := ⟨RX0, "learn", "(LPumpCrossing;IIII[J)I"⟩
def dkwX0_learn_1 : List UInt8 := [172, 3, 172]
abbrev dktX0_learn_1 : List UInt8 := dkwX0_learn_1 ++ []
def dkwX0_learn_0 : List UInt8 := [25, 5, 3, 42, 27, 28, 29, 21, 4, 182, 0, 90, 133, 80, 167, 0, 11, 58, 6, 4, 172, 58, 6, 5]
abbrev dktX0_learn_0 : List UInt8 := dkwX0_learn_0 ++ dktX0_learn_1
theorem dksX0_learn_0 : cX0_learn.data.toList.drop 0 = dktX0_learn_0 := by decide +kernel
theorem dksX0_learn_1 : cX0_learn.data.toList.drop 24 = dktX0_learn_1 := dk_seg dksX0_learn_0 24 rfl rfl
theorem dX0_learn_0 : decode cX0_learn 0 = .ok (.aload 5, 2) := dk_25 5 (dk_at dksX0_learn_0 0 rfl rfl)
theorem dX0_learn_2 : decode cX0_learn 2 = .ok (.iconst 0, 1) := dk_3 (dk_at dksX0_learn_0 2 rfl rfl)
theorem dX0_learn_3 : decode cX0_learn 3 = .ok (.aload_n 0, 1) := dk_42 (dk_at dksX0_learn_0 3 rfl rfl)
theorem dX0_learn_4 : decode cX0_learn 4 = .ok (.iload_n 1, 1) := dk_27 (dk_at dksX0_learn_0 4 rfl rfl)
theorem dX0_learn_5 : decode cX0_learn 5 = .ok (.iload_n 2, 1) := dk_28 (dk_at dksX0_learn_0 5 rfl rfl)
theorem dX0_learn_6 : decode cX0_learn 6 = .ok (.iload_n 3, 1) := dk_29 (dk_at dksX0_learn_0 6 rfl rfl)
theorem dX0_learn_7 : decode cX0_learn 7 = .ok (.iload 4, 2) := dk_21 4 (dk_at dksX0_learn_0 7 rfl rfl)
theorem dX0_learn_9 : decode cX0_learn 9 = .ok (.invokevirtual 90, 3) := dk_182 0 90 (dk_at dksX0_learn_0 9 rfl rfl)
theorem dX0_learn_12 : decode cX0_learn 12 = .ok (.i2l, 1) := dk_133 (dk_at dksX0_learn_0 12 rfl rfl)
theorem dX0_learn_13 : decode cX0_learn 13 = .ok (.lastore, 1) := dk_80 (dk_at dksX0_learn_0 13 rfl rfl)
theorem dX0_learn_14 : decode cX0_learn 14 = .ok (.goto 11, 3) := dk_167 0 11 (dk_at dksX0_learn_0 14 rfl rfl)
theorem dX0_learn_17 : decode cX0_learn 17 = .ok (.astore 6, 2) := dk_58 6 (dk_at dksX0_learn_0 17 rfl rfl)
theorem dX0_learn_19 : decode cX0_learn 19 = .ok (.iconst 1, 1) := dk_4 (dk_at dksX0_learn_0 19 rfl rfl)
theorem dX0_learn_20 : decode cX0_learn 20 = .ok (.ireturn, 1) := dk_172 (dk_at dksX0_learn_0 20 rfl rfl)
theorem dX0_learn_21 : decode cX0_learn 21 = .ok (.astore 6, 2) := dk_58 6 (dk_at dksX0_learn_0 21 rfl rfl)
theorem dX0_learn_23 : decode cX0_learn 23 = .ok (.iconst 2, 1) := dk_5 (dk_at dksX0_learn_0 23 rfl rfl)
theorem dX0_learn_24 : decode cX0_learn 24 = .ok (.ireturn, 1) := dk_172 (dk_at dksX0_learn_1 0 rfl rfl)
theorem dX0_learn_25 : decode cX0_learn 25 = .ok (.iconst 0, 1) := dk_3 (dk_at dksX0_learn_1 1 rfl rfl)
theorem dX0_learn_26 : decode cX0_learn 26 = .ok (.ireturn, 1) := dk_172 (dk_at dksX0_learn_1 2 rfl rfl)
abbrev cX0_above : ByteArray := method_25_code
def yX0_above : MethodName := ⟨RX0, "above", "(LPumpCrossing;IIII[J)I"⟩
def dkwX0_above_1 : List UInt8 := [172, 3, 172]
abbrev dktX0_above_1 : List UInt8 := dkwX0_above_1 ++ []
def dkwX0_above_0 : List UInt8 := [25, 5, 3, 42, 27, 28, 29, 21, 4, 182, 0, 93, 133, 80, 167, 0, 11, 58, 6, 4, 172, 58, 6, 5]
abbrev dktX0_above_0 : List UInt8 := dkwX0_above_0 ++ dktX0_above_1
theorem dksX0_above_0 : cX0_above.data.toList.drop 0 = dktX0_above_0 := by decide +kernel
theorem dksX0_above_1 : cX0_above.data.toList.drop 24 = dktX0_above_1 := dk_seg dksX0_above_0 24 rfl rfl
theorem dX0_above_0 : decode cX0_above 0 = .ok (.aload 5, 2) := dk_25 5 (dk_at dksX0_above_0 0 rfl rfl)
theorem dX0_above_2 : decode cX0_above 2 = .ok (.iconst 0, 1) := dk_3 (dk_at dksX0_above_0 2 rfl rfl)
theorem dX0_above_3 : decode cX0_above 3 = .ok (.aload_n 0, 1) := dk_42 (dk_at dksX0_above_0 3 rfl rfl)
theorem dX0_above_4 : decode cX0_above 4 = .ok (.iload_n 1, 1) := dk_27 (dk_at dksX0_above_0 4 rfl rfl)
theorem dX0_above_5 : decode cX0_above 5 = .ok (.iload_n 2, 1) := dk_28 (dk_at dksX0_above_0 5 rfl rfl)
theorem dX0_above_6 : decode cX0_above 6 = .ok (.iload_n 3, 1) := dk_29 (dk_at dksX0_above_0 6 rfl rfl)
theorem dX0_above_7 : decode cX0_above 7 = .ok (.iload 4, 2) := dk_21 4 (dk_at dksX0_above_0 7 rfl rfl)
theorem dX0_above_9 : decode cX0_above 9 = .ok (.invokevirtual 93, 3) := dk_182 0 93 (dk_at dksX0_above_0 9 rfl rfl)
theorem dX0_above_12 : decode cX0_above 12 = .ok (.i2l, 1) := dk_133 (dk_at dksX0_above_0 12 rfl rfl)
theorem dX0_above_13 : decode cX0_above 13 = .ok (.lastore, 1) := dk_80 (dk_at dksX0_above_0 13 rfl rfl)
theorem dX0_above_14 : decode cX0_above 14 = .ok (.goto 11, 3) := dk_167 0 11 (dk_at dksX0_above_0 14 rfl rfl)
theorem dX0_above_17 : decode cX0_above 17 = .ok (.astore 6, 2) := dk_58 6 (dk_at dksX0_above_0 17 rfl rfl)
theorem dX0_above_19 : decode cX0_above 19 = .ok (.iconst 1, 1) := dk_4 (dk_at dksX0_above_0 19 rfl rfl)
theorem dX0_above_20 : decode cX0_above 20 = .ok (.ireturn, 1) := dk_172 (dk_at dksX0_above_0 20 rfl rfl)
theorem dX0_above_21 : decode cX0_above 21 = .ok (.astore 6, 2) := dk_58 6 (dk_at dksX0_above_0 21 rfl rfl)
theorem dX0_above_23 : decode cX0_above 23 = .ok (.iconst 2, 1) := dk_5 (dk_at dksX0_above_0 23 rfl rfl)
theorem dX0_above_24 : decode cX0_above 24 = .ok (.ireturn, 1) := dk_172 (dk_at dksX0_above_1 0 rfl rfl)
theorem dX0_above_25 : decode cX0_above 25 = .ok (.iconst 0, 1) := dk_3 (dk_at dksX0_above_1 1 rfl rfl)
theorem dX0_above_26 : decode cX0_above 26 = .ok (.ireturn, 1) := dk_172 (dk_at dksX0_above_1 2 rfl rfl)
abbrev cX0_punish : ByteArray := method_26_code
def yX0_punish : MethodName := ⟨RX0, "punish", "(LPumpCrossing;IIIII[J)I"⟩
def dkwX0_punish_1 : List UInt8 := [58, 7, 5, 172, 58, 7, 6, 172, 3, 172]
abbrev dktX0_punish_1 : List UInt8 := dkwX0_punish_1 ++ []
def dkwX0_punish_0 : List UInt8 := [25, 6, 3, 42, 27, 28, 29, 21, 4, 21, 5, 182, 0, 96, 133, 80, 167, 0, 15, 58, 7, 4, 172]
abbrev dktX0_punish_0 : List UInt8 := dkwX0_punish_0 ++ dktX0_punish_1
theorem dksX0_punish_0 : cX0_punish.data.toList.drop 0 = dktX0_punish_0 := by decide +kernel
theorem dksX0_punish_1 : cX0_punish.data.toList.drop 23 = dktX0_punish_1 := dk_seg dksX0_punish_0 23 rfl rfl
theorem dX0_punish_0 : decode cX0_punish 0 = .ok (.aload 6, 2) := dk_25 6 (dk_at dksX0_punish_0 0 rfl rfl)
theorem dX0_punish_2 : decode cX0_punish 2 = .ok (.iconst 0, 1) := dk_3 (dk_at dksX0_punish_0 2 rfl rfl)
theorem dX0_punish_3 : decode cX0_punish 3 = .ok (.aload_n 0, 1) := dk_42 (dk_at dksX0_punish_0 3 rfl rfl)
theorem dX0_punish_4 : decode cX0_punish 4 = .ok (.iload_n 1, 1) := dk_27 (dk_at dksX0_punish_0 4 rfl rfl)
theorem dX0_punish_5 : decode cX0_punish 5 = .ok (.iload_n 2, 1) := dk_28 (dk_at dksX0_punish_0 5 rfl rfl)
theorem dX0_punish_6 : decode cX0_punish 6 = .ok (.iload_n 3, 1) := dk_29 (dk_at dksX0_punish_0 6 rfl rfl)
theorem dX0_punish_7 : decode cX0_punish 7 = .ok (.iload 4, 2) := dk_21 4 (dk_at dksX0_punish_0 7 rfl rfl)
theorem dX0_punish_9 : decode cX0_punish 9 = .ok (.iload 5, 2) := dk_21 5 (dk_at dksX0_punish_0 9 rfl rfl)
theorem dX0_punish_11 : decode cX0_punish 11 = .ok (.invokevirtual 96, 3) := dk_182 0 96 (dk_at dksX0_punish_0 11 rfl rfl)
theorem dX0_punish_14 : decode cX0_punish 14 = .ok (.i2l, 1) := dk_133 (dk_at dksX0_punish_0 14 rfl rfl)
theorem dX0_punish_15 : decode cX0_punish 15 = .ok (.lastore, 1) := dk_80 (dk_at dksX0_punish_0 15 rfl rfl)
theorem dX0_punish_16 : decode cX0_punish 16 = .ok (.goto 15, 3) := dk_167 0 15 (dk_at dksX0_punish_0 16 rfl rfl)
theorem dX0_punish_19 : decode cX0_punish 19 = .ok (.astore 7, 2) := dk_58 7 (dk_at dksX0_punish_0 19 rfl rfl)
theorem dX0_punish_21 : decode cX0_punish 21 = .ok (.iconst 1, 1) := dk_4 (dk_at dksX0_punish_0 21 rfl rfl)
theorem dX0_punish_22 : decode cX0_punish 22 = .ok (.ireturn, 1) := dk_172 (dk_at dksX0_punish_0 22 rfl rfl)
theorem dX0_punish_23 : decode cX0_punish 23 = .ok (.astore 7, 2) := dk_58 7 (dk_at dksX0_punish_1 0 rfl rfl)
theorem dX0_punish_25 : decode cX0_punish 25 = .ok (.iconst 2, 1) := dk_5 (dk_at dksX0_punish_1 2 rfl rfl)
theorem dX0_punish_26 : decode cX0_punish 26 = .ok (.ireturn, 1) := dk_172 (dk_at dksX0_punish_1 3 rfl rfl)
theorem dX0_punish_27 : decode cX0_punish 27 = .ok (.astore 7, 2) := dk_58 7 (dk_at dksX0_punish_1 4 rfl rfl)
theorem dX0_punish_29 : decode cX0_punish 29 = .ok (.iconst 3, 1) := dk_6 (dk_at dksX0_punish_1 6 rfl rfl)
theorem dX0_punish_30 : decode cX0_punish 30 = .ok (.ireturn, 1) := dk_172 (dk_at dksX0_punish_1 7 rfl rfl)
theorem dX0_punish_31 : decode cX0_punish 31 = .ok (.iconst 0, 1) := dk_3 (dk_at dksX0_punish_1 8 rfl rfl)
theorem dX0_punish_32 : decode cX0_punish 32 = .ok (.ireturn, 1) := dk_172 (dk_at dksX0_punish_1 9 rfl rfl)
abbrev cX0_story : ByteArray := method_27_code
def yX0_story : MethodName := ⟨RX0, "story", "(LPumpCrossing;II[J)I"⟩
def dkwX0_story_1 : List UInt8 := [58, 4, 5, 172, 3, 172]
abbrev dktX0_story_1 : List UInt8 := dkwX0_story_1 ++ []
def dkwX0_story_0 : List UInt8 := [45, 3, 42, 27, 28, 182, 0, 99, 153, 0, 7, 10, 167, 0, 4, 9, 80, 167, 0, 11, 58, 4, 4, 172]
abbrev dktX0_story_0 : List UInt8 := dkwX0_story_0 ++ dktX0_story_1
theorem dksX0_story_0 : cX0_story.data.toList.drop 0 = dktX0_story_0 := by decide +kernel
theorem dksX0_story_1 : cX0_story.data.toList.drop 24 = dktX0_story_1 := dk_seg dksX0_story_0 24 rfl rfl
theorem dX0_story_0 : decode cX0_story 0 = .ok (.aload_n 3, 1) := dk_45 (dk_at dksX0_story_0 0 rfl rfl)
theorem dX0_story_1 : decode cX0_story 1 = .ok (.iconst 0, 1) := dk_3 (dk_at dksX0_story_0 1 rfl rfl)
theorem dX0_story_2 : decode cX0_story 2 = .ok (.aload_n 0, 1) := dk_42 (dk_at dksX0_story_0 2 rfl rfl)
theorem dX0_story_3 : decode cX0_story 3 = .ok (.iload_n 1, 1) := dk_27 (dk_at dksX0_story_0 3 rfl rfl)
theorem dX0_story_4 : decode cX0_story 4 = .ok (.iload_n 2, 1) := dk_28 (dk_at dksX0_story_0 4 rfl rfl)
theorem dX0_story_5 : decode cX0_story 5 = .ok (.invokevirtual 99, 3) := dk_182 0 99 (dk_at dksX0_story_0 5 rfl rfl)
theorem dX0_story_8 : decode cX0_story 8 = .ok (.ifCond .eq 7, 3) := dk_153 0 7 (dk_at dksX0_story_0 8 rfl rfl)
theorem dX0_story_11 : decode cX0_story 11 = .ok (.lconst 1, 1) := dk_10 (dk_at dksX0_story_0 11 rfl rfl)
theorem dX0_story_12 : decode cX0_story 12 = .ok (.goto 4, 3) := dk_167 0 4 (dk_at dksX0_story_0 12 rfl rfl)
theorem dX0_story_15 : decode cX0_story 15 = .ok (.lconst 0, 1) := dk_9 (dk_at dksX0_story_0 15 rfl rfl)
theorem dX0_story_16 : decode cX0_story 16 = .ok (.lastore, 1) := dk_80 (dk_at dksX0_story_0 16 rfl rfl)
theorem dX0_story_17 : decode cX0_story 17 = .ok (.goto 11, 3) := dk_167 0 11 (dk_at dksX0_story_0 17 rfl rfl)
theorem dX0_story_20 : decode cX0_story 20 = .ok (.astore 4, 2) := dk_58 4 (dk_at dksX0_story_0 20 rfl rfl)
theorem dX0_story_22 : decode cX0_story 22 = .ok (.iconst 1, 1) := dk_4 (dk_at dksX0_story_0 22 rfl rfl)
theorem dX0_story_23 : decode cX0_story 23 = .ok (.ireturn, 1) := dk_172 (dk_at dksX0_story_0 23 rfl rfl)
theorem dX0_story_24 : decode cX0_story 24 = .ok (.astore 4, 2) := dk_58 4 (dk_at dksX0_story_1 0 rfl rfl)
theorem dX0_story_26 : decode cX0_story 26 = .ok (.iconst 2, 1) := dk_5 (dk_at dksX0_story_1 2 rfl rfl)
theorem dX0_story_27 : decode cX0_story 27 = .ok (.ireturn, 1) := dk_172 (dk_at dksX0_story_1 3 rfl rfl)
theorem dX0_story_28 : decode cX0_story 28 = .ok (.iconst 0, 1) := dk_3 (dk_at dksX0_story_1 4 rfl rfl)
theorem dX0_story_29 : decode cX0_story 29 = .ok (.ireturn, 1) := dk_172 (dk_at dksX0_story_1 5 rfl rfl)
abbrev cX0_rise : ByteArray := method_28_code
def yX0_rise : MethodName := ⟨RX0, "rise", "(LPumpCrossing;III[J)I"⟩
def dkwX0_rise_0 : List UInt8 := [25, 4, 3, 42, 27, 28, 29, 182, 0, 103, 133, 80, 167, 0, 7, 58, 5, 4, 172, 3, 172]
abbrev dktX0_rise_0 : List UInt8 := dkwX0_rise_0 ++ []
theorem dksX0_rise_0 : cX0_rise.data.toList.drop 0 = dktX0_rise_0 := by decide +kernel
theorem dX0_rise_0 : decode cX0_rise 0 = .ok (.aload 4, 2) := dk_25 4 (dk_at dksX0_rise_0 0 rfl rfl)
theorem dX0_rise_2 : decode cX0_rise 2 = .ok (.iconst 0, 1) := dk_3 (dk_at dksX0_rise_0 2 rfl rfl)
theorem dX0_rise_3 : decode cX0_rise 3 = .ok (.aload_n 0, 1) := dk_42 (dk_at dksX0_rise_0 3 rfl rfl)
theorem dX0_rise_4 : decode cX0_rise 4 = .ok (.iload_n 1, 1) := dk_27 (dk_at dksX0_rise_0 4 rfl rfl)
theorem dX0_rise_5 : decode cX0_rise 5 = .ok (.iload_n 2, 1) := dk_28 (dk_at dksX0_rise_0 5 rfl rfl)
theorem dX0_rise_6 : decode cX0_rise 6 = .ok (.iload_n 3, 1) := dk_29 (dk_at dksX0_rise_0 6 rfl rfl)
theorem dX0_rise_7 : decode cX0_rise 7 = .ok (.invokevirtual 103, 3) := dk_182 0 103 (dk_at dksX0_rise_0 7 rfl rfl)
theorem dX0_rise_10 : decode cX0_rise 10 = .ok (.i2l, 1) := dk_133 (dk_at dksX0_rise_0 10 rfl rfl)
theorem dX0_rise_11 : decode cX0_rise 11 = .ok (.lastore, 1) := dk_80 (dk_at dksX0_rise_0 11 rfl rfl)
theorem dX0_rise_12 : decode cX0_rise 12 = .ok (.goto 7, 3) := dk_167 0 7 (dk_at dksX0_rise_0 12 rfl rfl)
theorem dX0_rise_15 : decode cX0_rise 15 = .ok (.astore 5, 2) := dk_58 5 (dk_at dksX0_rise_0 15 rfl rfl)
theorem dX0_rise_17 : decode cX0_rise 17 = .ok (.iconst 1, 1) := dk_4 (dk_at dksX0_rise_0 17 rfl rfl)
theorem dX0_rise_18 : decode cX0_rise 18 = .ok (.ireturn, 1) := dk_172 (dk_at dksX0_rise_0 18 rfl rfl)
theorem dX0_rise_19 : decode cX0_rise 19 = .ok (.iconst 0, 1) := dk_3 (dk_at dksX0_rise_0 19 rfl rfl)
theorem dX0_rise_20 : decode cX0_rise 20 = .ok (.ireturn, 1) := dk_172 (dk_at dksX0_rise_0 20 rfl rfl)
abbrev cX0_fill : ByteArray := method_29_code
def yX0_fill : MethodName := ⟨RX0, "fill", "(LPumpCrossing;IIII[J)I"⟩
def dkwX0_fill_1 : List UInt8 := [172, 58, 6, 6, 172, 3, 172]
abbrev dktX0_fill_1 : List UInt8 := dkwX0_fill_1 ++ []
def dkwX0_fill_0 : List UInt8 := [25, 5, 3, 42, 27, 28, 29, 21, 4, 182, 0, 106, 133, 80, 167, 0, 15, 58, 6, 4, 172, 58, 6, 5]
abbrev dktX0_fill_0 : List UInt8 := dkwX0_fill_0 ++ dktX0_fill_1
theorem dksX0_fill_0 : cX0_fill.data.toList.drop 0 = dktX0_fill_0 := by decide +kernel
theorem dksX0_fill_1 : cX0_fill.data.toList.drop 24 = dktX0_fill_1 := dk_seg dksX0_fill_0 24 rfl rfl
theorem dX0_fill_0 : decode cX0_fill 0 = .ok (.aload 5, 2) := dk_25 5 (dk_at dksX0_fill_0 0 rfl rfl)
theorem dX0_fill_2 : decode cX0_fill 2 = .ok (.iconst 0, 1) := dk_3 (dk_at dksX0_fill_0 2 rfl rfl)
theorem dX0_fill_3 : decode cX0_fill 3 = .ok (.aload_n 0, 1) := dk_42 (dk_at dksX0_fill_0 3 rfl rfl)
theorem dX0_fill_4 : decode cX0_fill 4 = .ok (.iload_n 1, 1) := dk_27 (dk_at dksX0_fill_0 4 rfl rfl)
theorem dX0_fill_5 : decode cX0_fill 5 = .ok (.iload_n 2, 1) := dk_28 (dk_at dksX0_fill_0 5 rfl rfl)
theorem dX0_fill_6 : decode cX0_fill 6 = .ok (.iload_n 3, 1) := dk_29 (dk_at dksX0_fill_0 6 rfl rfl)
theorem dX0_fill_7 : decode cX0_fill 7 = .ok (.iload 4, 2) := dk_21 4 (dk_at dksX0_fill_0 7 rfl rfl)
theorem dX0_fill_9 : decode cX0_fill 9 = .ok (.invokevirtual 106, 3) := dk_182 0 106 (dk_at dksX0_fill_0 9 rfl rfl)
theorem dX0_fill_12 : decode cX0_fill 12 = .ok (.i2l, 1) := dk_133 (dk_at dksX0_fill_0 12 rfl rfl)
theorem dX0_fill_13 : decode cX0_fill 13 = .ok (.lastore, 1) := dk_80 (dk_at dksX0_fill_0 13 rfl rfl)
theorem dX0_fill_14 : decode cX0_fill 14 = .ok (.goto 15, 3) := dk_167 0 15 (dk_at dksX0_fill_0 14 rfl rfl)
theorem dX0_fill_17 : decode cX0_fill 17 = .ok (.astore 6, 2) := dk_58 6 (dk_at dksX0_fill_0 17 rfl rfl)
theorem dX0_fill_19 : decode cX0_fill 19 = .ok (.iconst 1, 1) := dk_4 (dk_at dksX0_fill_0 19 rfl rfl)
theorem dX0_fill_20 : decode cX0_fill 20 = .ok (.ireturn, 1) := dk_172 (dk_at dksX0_fill_0 20 rfl rfl)
theorem dX0_fill_21 : decode cX0_fill 21 = .ok (.astore 6, 2) := dk_58 6 (dk_at dksX0_fill_0 21 rfl rfl)
theorem dX0_fill_23 : decode cX0_fill 23 = .ok (.iconst 2, 1) := dk_5 (dk_at dksX0_fill_0 23 rfl rfl)
theorem dX0_fill_24 : decode cX0_fill 24 = .ok (.ireturn, 1) := dk_172 (dk_at dksX0_fill_1 0 rfl rfl)
theorem dX0_fill_25 : decode cX0_fill 25 = .ok (.astore 6, 2) := dk_58 6 (dk_at dksX0_fill_1 1 rfl rfl)
theorem dX0_fill_27 : decode cX0_fill 27 = .ok (.iconst 3, 1) := dk_6 (dk_at dksX0_fill_1 3 rfl rfl)
theorem dX0_fill_28 : decode cX0_fill 28 = .ok (.ireturn, 1) := dk_172 (dk_at dksX0_fill_1 4 rfl rfl)
theorem dX0_fill_29 : decode cX0_fill 29 = .ok (.iconst 0, 1) := dk_3 (dk_at dksX0_fill_1 5 rfl rfl)
theorem dX0_fill_30 : decode cX0_fill 30 = .ok (.ireturn, 1) := dk_172 (dk_at dksX0_fill_1 6 rfl rfl)
abbrev cX0_told : ByteArray := method_30_code
def yX0_told : MethodName := ⟨RX0, "told", "(LPumpCrossing;IIII[J)I"⟩
def dkwX0_told_1 : List UInt8 := [172, 3, 172]
abbrev dktX0_told_1 : List UInt8 := dkwX0_told_1 ++ []
def dkwX0_told_0 : List UInt8 := [25, 5, 3, 42, 27, 28, 29, 21, 4, 182, 0, 109, 133, 80, 167, 0, 11, 58, 6, 4, 172, 58, 6, 5]
abbrev dktX0_told_0 : List UInt8 := dkwX0_told_0 ++ dktX0_told_1
theorem dksX0_told_0 : cX0_told.data.toList.drop 0 = dktX0_told_0 := by decide +kernel
theorem dksX0_told_1 : cX0_told.data.toList.drop 24 = dktX0_told_1 := dk_seg dksX0_told_0 24 rfl rfl
theorem dX0_told_0 : decode cX0_told 0 = .ok (.aload 5, 2) := dk_25 5 (dk_at dksX0_told_0 0 rfl rfl)
theorem dX0_told_2 : decode cX0_told 2 = .ok (.iconst 0, 1) := dk_3 (dk_at dksX0_told_0 2 rfl rfl)
theorem dX0_told_3 : decode cX0_told 3 = .ok (.aload_n 0, 1) := dk_42 (dk_at dksX0_told_0 3 rfl rfl)
theorem dX0_told_4 : decode cX0_told 4 = .ok (.iload_n 1, 1) := dk_27 (dk_at dksX0_told_0 4 rfl rfl)
theorem dX0_told_5 : decode cX0_told 5 = .ok (.iload_n 2, 1) := dk_28 (dk_at dksX0_told_0 5 rfl rfl)
theorem dX0_told_6 : decode cX0_told 6 = .ok (.iload_n 3, 1) := dk_29 (dk_at dksX0_told_0 6 rfl rfl)
theorem dX0_told_7 : decode cX0_told 7 = .ok (.iload 4, 2) := dk_21 4 (dk_at dksX0_told_0 7 rfl rfl)
theorem dX0_told_9 : decode cX0_told 9 = .ok (.invokevirtual 109, 3) := dk_182 0 109 (dk_at dksX0_told_0 9 rfl rfl)
theorem dX0_told_12 : decode cX0_told 12 = .ok (.i2l, 1) := dk_133 (dk_at dksX0_told_0 12 rfl rfl)
theorem dX0_told_13 : decode cX0_told 13 = .ok (.lastore, 1) := dk_80 (dk_at dksX0_told_0 13 rfl rfl)
theorem dX0_told_14 : decode cX0_told 14 = .ok (.goto 11, 3) := dk_167 0 11 (dk_at dksX0_told_0 14 rfl rfl)
theorem dX0_told_17 : decode cX0_told 17 = .ok (.astore 6, 2) := dk_58 6 (dk_at dksX0_told_0 17 rfl rfl)
theorem dX0_told_19 : decode cX0_told 19 = .ok (.iconst 1, 1) := dk_4 (dk_at dksX0_told_0 19 rfl rfl)
theorem dX0_told_20 : decode cX0_told 20 = .ok (.ireturn, 1) := dk_172 (dk_at dksX0_told_0 20 rfl rfl)
theorem dX0_told_21 : decode cX0_told 21 = .ok (.astore 6, 2) := dk_58 6 (dk_at dksX0_told_0 21 rfl rfl)
theorem dX0_told_23 : decode cX0_told 23 = .ok (.iconst 2, 1) := dk_5 (dk_at dksX0_told_0 23 rfl rfl)
theorem dX0_told_24 : decode cX0_told 24 = .ok (.ireturn, 1) := dk_172 (dk_at dksX0_told_1 0 rfl rfl)
theorem dX0_told_25 : decode cX0_told 25 = .ok (.iconst 0, 1) := dk_3 (dk_at dksX0_told_1 1 rfl rfl)
theorem dX0_told_26 : decode cX0_told 26 = .ok (.ireturn, 1) := dk_172 (dk_at dksX0_told_1 2 rfl rfl)
abbrev cX0_fit : ByteArray := method_31_code
def yX0_fit : MethodName := ⟨RX0, "fit", "(LPumpCrossing;I[J)I"⟩
def dkwX0_fit_0 : List UInt8 := [44, 3, 42, 27, 182, 0, 112, 133, 80, 167, 0, 6, 78, 4, 172, 3, 172]
abbrev dktX0_fit_0 : List UInt8 := dkwX0_fit_0 ++ []
theorem dksX0_fit_0 : cX0_fit.data.toList.drop 0 = dktX0_fit_0 := by decide +kernel
theorem dX0_fit_0 : decode cX0_fit 0 = .ok (.aload_n 2, 1) := dk_44 (dk_at dksX0_fit_0 0 rfl rfl)
theorem dX0_fit_1 : decode cX0_fit 1 = .ok (.iconst 0, 1) := dk_3 (dk_at dksX0_fit_0 1 rfl rfl)
theorem dX0_fit_2 : decode cX0_fit 2 = .ok (.aload_n 0, 1) := dk_42 (dk_at dksX0_fit_0 2 rfl rfl)
theorem dX0_fit_3 : decode cX0_fit 3 = .ok (.iload_n 1, 1) := dk_27 (dk_at dksX0_fit_0 3 rfl rfl)
theorem dX0_fit_4 : decode cX0_fit 4 = .ok (.invokevirtual 112, 3) := dk_182 0 112 (dk_at dksX0_fit_0 4 rfl rfl)
theorem dX0_fit_7 : decode cX0_fit 7 = .ok (.i2l, 1) := dk_133 (dk_at dksX0_fit_0 7 rfl rfl)
theorem dX0_fit_8 : decode cX0_fit 8 = .ok (.lastore, 1) := dk_80 (dk_at dksX0_fit_0 8 rfl rfl)
theorem dX0_fit_9 : decode cX0_fit 9 = .ok (.goto 6, 3) := dk_167 0 6 (dk_at dksX0_fit_0 9 rfl rfl)
theorem dX0_fit_12 : decode cX0_fit 12 = .ok (.astore_n 3, 1) := dk_78 (dk_at dksX0_fit_0 12 rfl rfl)
theorem dX0_fit_13 : decode cX0_fit 13 = .ok (.iconst 1, 1) := dk_4 (dk_at dksX0_fit_0 13 rfl rfl)
theorem dX0_fit_14 : decode cX0_fit 14 = .ok (.ireturn, 1) := dk_172 (dk_at dksX0_fit_0 14 rfl rfl)
theorem dX0_fit_15 : decode cX0_fit 15 = .ok (.iconst 0, 1) := dk_3 (dk_at dksX0_fit_0 15 rfl rfl)
theorem dX0_fit_16 : decode cX0_fit 16 = .ok (.ireturn, 1) := dk_172 (dk_at dksX0_fit_0 16 rfl rfl)
abbrev cX0_tray : ByteArray := method_32_code
def yX0_tray : MethodName := ⟨RX0, "tray", "(LPumpCrossing;III)I"⟩
def dkwX0_tray_0 : List UInt8 := [42, 27, 28, 29, 182, 0, 115, 167, 0, 11, 58, 4, 4, 172, 58, 4, 5, 172, 3, 172]
abbrev dktX0_tray_0 : List UInt8 := dkwX0_tray_0 ++ []
theorem dksX0_tray_0 : cX0_tray.data.toList.drop 0 = dktX0_tray_0 := by decide +kernel
theorem dX0_tray_0 : decode cX0_tray 0 = .ok (.aload_n 0, 1) := dk_42 (dk_at dksX0_tray_0 0 rfl rfl)
theorem dX0_tray_1 : decode cX0_tray 1 = .ok (.iload_n 1, 1) := dk_27 (dk_at dksX0_tray_0 1 rfl rfl)
theorem dX0_tray_2 : decode cX0_tray 2 = .ok (.iload_n 2, 1) := dk_28 (dk_at dksX0_tray_0 2 rfl rfl)
theorem dX0_tray_3 : decode cX0_tray 3 = .ok (.iload_n 3, 1) := dk_29 (dk_at dksX0_tray_0 3 rfl rfl)
theorem dX0_tray_4 : decode cX0_tray 4 = .ok (.invokevirtual 115, 3) := dk_182 0 115 (dk_at dksX0_tray_0 4 rfl rfl)
theorem dX0_tray_7 : decode cX0_tray 7 = .ok (.goto 11, 3) := dk_167 0 11 (dk_at dksX0_tray_0 7 rfl rfl)
theorem dX0_tray_10 : decode cX0_tray 10 = .ok (.astore 4, 2) := dk_58 4 (dk_at dksX0_tray_0 10 rfl rfl)
theorem dX0_tray_12 : decode cX0_tray 12 = .ok (.iconst 1, 1) := dk_4 (dk_at dksX0_tray_0 12 rfl rfl)
theorem dX0_tray_13 : decode cX0_tray 13 = .ok (.ireturn, 1) := dk_172 (dk_at dksX0_tray_0 13 rfl rfl)
theorem dX0_tray_14 : decode cX0_tray 14 = .ok (.astore 4, 2) := dk_58 4 (dk_at dksX0_tray_0 14 rfl rfl)
theorem dX0_tray_16 : decode cX0_tray 16 = .ok (.iconst 2, 1) := dk_5 (dk_at dksX0_tray_0 16 rfl rfl)
theorem dX0_tray_17 : decode cX0_tray 17 = .ok (.ireturn, 1) := dk_172 (dk_at dksX0_tray_0 17 rfl rfl)
theorem dX0_tray_18 : decode cX0_tray 18 = .ok (.iconst 0, 1) := dk_3 (dk_at dksX0_tray_0 18 rfl rfl)
theorem dX0_tray_19 : decode cX0_tray 19 = .ok (.ireturn, 1) := dk_172 (dk_at dksX0_tray_0 19 rfl rfl)
abbrev cX0_write : ByteArray := method_33_code
def yX0_write : MethodName := ⟨RX0, "write", "(LPumpCrossing;IIJ[J)I"⟩
def dkwX0_write_1 : List UInt8 := [6, 172, 3, 172]
abbrev dktX0_write_1 : List UInt8 := dkwX0_write_1 ++ []
def dkwX0_write_0 : List UInt8 := [25, 5, 3, 42, 27, 28, 33, 182, 0, 119, 80, 167, 0, 15, 58, 6, 4, 172, 58, 6, 5, 172, 58, 6]
abbrev dktX0_write_0 : List UInt8 := dkwX0_write_0 ++ dktX0_write_1
theorem dksX0_write_0 : cX0_write.data.toList.drop 0 = dktX0_write_0 := by decide +kernel
theorem dksX0_write_1 : cX0_write.data.toList.drop 24 = dktX0_write_1 := dk_seg dksX0_write_0 24 rfl rfl
theorem dX0_write_0 : decode cX0_write 0 = .ok (.aload 5, 2) := dk_25 5 (dk_at dksX0_write_0 0 rfl rfl)
theorem dX0_write_2 : decode cX0_write 2 = .ok (.iconst 0, 1) := dk_3 (dk_at dksX0_write_0 2 rfl rfl)
theorem dX0_write_3 : decode cX0_write 3 = .ok (.aload_n 0, 1) := dk_42 (dk_at dksX0_write_0 3 rfl rfl)
theorem dX0_write_4 : decode cX0_write 4 = .ok (.iload_n 1, 1) := dk_27 (dk_at dksX0_write_0 4 rfl rfl)
theorem dX0_write_5 : decode cX0_write 5 = .ok (.iload_n 2, 1) := dk_28 (dk_at dksX0_write_0 5 rfl rfl)
theorem dX0_write_6 : decode cX0_write 6 = .ok (.lload_n 3, 1) := dk_33 (dk_at dksX0_write_0 6 rfl rfl)
theorem dX0_write_7 : decode cX0_write 7 = .ok (.invokevirtual 119, 3) := dk_182 0 119 (dk_at dksX0_write_0 7 rfl rfl)
theorem dX0_write_10 : decode cX0_write 10 = .ok (.lastore, 1) := dk_80 (dk_at dksX0_write_0 10 rfl rfl)
theorem dX0_write_11 : decode cX0_write 11 = .ok (.goto 15, 3) := dk_167 0 15 (dk_at dksX0_write_0 11 rfl rfl)
theorem dX0_write_14 : decode cX0_write 14 = .ok (.astore 6, 2) := dk_58 6 (dk_at dksX0_write_0 14 rfl rfl)
theorem dX0_write_16 : decode cX0_write 16 = .ok (.iconst 1, 1) := dk_4 (dk_at dksX0_write_0 16 rfl rfl)
theorem dX0_write_17 : decode cX0_write 17 = .ok (.ireturn, 1) := dk_172 (dk_at dksX0_write_0 17 rfl rfl)
theorem dX0_write_18 : decode cX0_write 18 = .ok (.astore 6, 2) := dk_58 6 (dk_at dksX0_write_0 18 rfl rfl)
theorem dX0_write_20 : decode cX0_write 20 = .ok (.iconst 2, 1) := dk_5 (dk_at dksX0_write_0 20 rfl rfl)
theorem dX0_write_21 : decode cX0_write 21 = .ok (.ireturn, 1) := dk_172 (dk_at dksX0_write_0 21 rfl rfl)
theorem dX0_write_22 : decode cX0_write 22 = .ok (.astore 6, 2) := dk_58 6 (dk_at dksX0_write_0 22 rfl rfl)
theorem dX0_write_24 : decode cX0_write 24 = .ok (.iconst 3, 1) := dk_6 (dk_at dksX0_write_1 0 rfl rfl)
theorem dX0_write_25 : decode cX0_write 25 = .ok (.ireturn, 1) := dk_172 (dk_at dksX0_write_1 1 rfl rfl)
theorem dX0_write_26 : decode cX0_write 26 = .ok (.iconst 0, 1) := dk_3 (dk_at dksX0_write_1 2 rfl rfl)
theorem dX0_write_27 : decode cX0_write 27 = .ok (.ireturn, 1) := dk_172 (dk_at dksX0_write_1 3 rfl rfl)
abbrev cX0_image : ByteArray := method_34_code
def yX0_image : MethodName := ⟨RX0, "image", "(LPumpCrossing;I)I"⟩
def dkwX0_image_0 : List UInt8 := [42, 27, 182, 0, 123, 167, 0, 6, 77, 4, 172, 3, 172]
abbrev dktX0_image_0 : List UInt8 := dkwX0_image_0 ++ []
theorem dksX0_image_0 : cX0_image.data.toList.drop 0 = dktX0_image_0 := by decide +kernel
theorem dX0_image_0 : decode cX0_image 0 = .ok (.aload_n 0, 1) := dk_42 (dk_at dksX0_image_0 0 rfl rfl)
theorem dX0_image_1 : decode cX0_image 1 = .ok (.iload_n 1, 1) := dk_27 (dk_at dksX0_image_0 1 rfl rfl)
theorem dX0_image_2 : decode cX0_image 2 = .ok (.invokevirtual 123, 3) := dk_182 0 123 (dk_at dksX0_image_0 2 rfl rfl)
theorem dX0_image_5 : decode cX0_image 5 = .ok (.goto 6, 3) := dk_167 0 6 (dk_at dksX0_image_0 5 rfl rfl)
theorem dX0_image_8 : decode cX0_image 8 = .ok (.astore_n 2, 1) := dk_77 (dk_at dksX0_image_0 8 rfl rfl)
theorem dX0_image_9 : decode cX0_image 9 = .ok (.iconst 1, 1) := dk_4 (dk_at dksX0_image_0 9 rfl rfl)
theorem dX0_image_10 : decode cX0_image 10 = .ok (.ireturn, 1) := dk_172 (dk_at dksX0_image_0 10 rfl rfl)
theorem dX0_image_11 : decode cX0_image 11 = .ok (.iconst 0, 1) := dk_3 (dk_at dksX0_image_0 11 rfl rfl)
theorem dX0_image_12 : decode cX0_image 12 = .ok (.ireturn, 1) := dk_172 (dk_at dksX0_image_0 12 rfl rfl)
abbrev cX0_restore : ByteArray := method_35_code
def yX0_restore : MethodName := ⟨RX0, "restore", "(LPumpCrossing;I)I"⟩
def dkwX0_restore_0 : List UInt8 := [42, 27, 182, 0, 127, 167, 0, 9, 77, 4, 172, 77, 5, 172, 3, 172]
abbrev dktX0_restore_0 : List UInt8 := dkwX0_restore_0 ++ []
theorem dksX0_restore_0 : cX0_restore.data.toList.drop 0 = dktX0_restore_0 := by decide +kernel
theorem dX0_restore_0 : decode cX0_restore 0 = .ok (.aload_n 0, 1) := dk_42 (dk_at dksX0_restore_0 0 rfl rfl)
theorem dX0_restore_1 : decode cX0_restore 1 = .ok (.iload_n 1, 1) := dk_27 (dk_at dksX0_restore_0 1 rfl rfl)
theorem dX0_restore_2 : decode cX0_restore 2 = .ok (.invokevirtual 127, 3) := dk_182 0 127 (dk_at dksX0_restore_0 2 rfl rfl)
theorem dX0_restore_5 : decode cX0_restore 5 = .ok (.goto 9, 3) := dk_167 0 9 (dk_at dksX0_restore_0 5 rfl rfl)
theorem dX0_restore_8 : decode cX0_restore 8 = .ok (.astore_n 2, 1) := dk_77 (dk_at dksX0_restore_0 8 rfl rfl)
theorem dX0_restore_9 : decode cX0_restore 9 = .ok (.iconst 1, 1) := dk_4 (dk_at dksX0_restore_0 9 rfl rfl)
theorem dX0_restore_10 : decode cX0_restore 10 = .ok (.ireturn, 1) := dk_172 (dk_at dksX0_restore_0 10 rfl rfl)
theorem dX0_restore_11 : decode cX0_restore 11 = .ok (.astore_n 2, 1) := dk_77 (dk_at dksX0_restore_0 11 rfl rfl)
theorem dX0_restore_12 : decode cX0_restore 12 = .ok (.iconst 2, 1) := dk_5 (dk_at dksX0_restore_0 12 rfl rfl)
theorem dX0_restore_13 : decode cX0_restore 13 = .ok (.ireturn, 1) := dk_172 (dk_at dksX0_restore_0 13 rfl rfl)
theorem dX0_restore_14 : decode cX0_restore 14 = .ok (.iconst 0, 1) := dk_3 (dk_at dksX0_restore_0 14 rfl rfl)
theorem dX0_restore_15 : decode cX0_restore 15 = .ok (.ireturn, 1) := dk_172 (dk_at dksX0_restore_0 15 rfl rfl)
theorem q96 : (Jvm.Cond.initialized "PumpCrossingLaw") ∈ lw_all := lw_g (lw_at lw_m1 0 rfl) rfl
theorem q146 : (Jvm.Cond.classLink "PumpCrossingLaw" (8 : Nat) "PumpCrossing") ∈ lw_all := lw_g (lw_at lw_m1 50 rfl) rfl
theorem q148 : (Jvm.Cond.methodLink "PumpCrossingLaw" (130 : Nat) ({ cls := "PumpCrossing", name := "<init>", desc := "()V" } : Jvm.MethodName)) ∈ lw_all := lw_g (lw_at lw_m1 52 rfl) rfl
theorem q403 : (Jvm.Cond.methodLink "PumpCrossingLaw" (155 : Nat) ({ cls := "PumpCrossing", name := "feed", desc := "(IIIII)I" } : Jvm.MethodName)) ∈ lw_all := lw_g (lw_at lw_m2 67 rfl) rfl
theorem q411 : (Jvm.Cond.methodLink "PumpCrossingLaw" (166 : Nat) ({ cls := "PumpCrossing", name := "fault", desc := "(I)I" } : Jvm.MethodName)) ∈ lw_all := lw_g (lw_at lw_m2 75 rfl) rfl
theorem q415 : (Jvm.Cond.methodLink "PumpCrossingLaw" (188 : Nat) ({ cls := "PumpCrossing", name := "round", desc := "()I" } : Jvm.MethodName)) ∈ lw_all := lw_g (lw_at lw_m2 79 rfl) rfl
theorem q439 : (Jvm.Cond.methodLink "PumpCrossingLaw" (200 : Nat) ({ cls := "PumpCrossing", name := "upper", desc := "()J" } : Jvm.MethodName)) ∈ lw_all := lw_g (lw_at lw_m2 103 rfl) rfl
theorem q443 : (Jvm.Cond.methodLink "PumpCrossingLaw" (205 : Nat) ({ cls := "PumpCrossing", name := "lower", desc := "()J" } : Jvm.MethodName)) ∈ lw_all := lw_g (lw_at lw_m2 107 rfl) rfl
theorem q447 : (Jvm.Cond.methodLink "PumpCrossingLaw" (247 : Nat) ({ cls := "PumpCrossing", name := "odds", desc := "()V" } : Jvm.MethodName)) ∈ lw_all := lw_g (lw_at lw_m2 111 rfl) rfl
theorem q474 : (Jvm.Cond.methodLink "PumpCrossingLaw" (277 : Nat) ({ cls := "PumpCrossing", name := "count", desc := "(I)J" } : Jvm.MethodName)) ∈ lw_all := lw_g (lw_at lw_m2 138 rfl) rfl
theorem q482 : (Jvm.Cond.methodLink "PumpCrossingLaw" (134 : Nat) ({ cls := "PumpCrossingLaw", name := "station", desc := "(LPumpCrossing;III[J)I" } : Jvm.MethodName)) ∈ lw_all := lw_g (lw_at lw_m2 146 rfl) rfl
theorem q483 : (Jvm.Cond.static ({ cls := "PumpCrossingLaw", name := "station", desc := "(LPumpCrossing;III[J)I" } : Jvm.MethodName)) ∈ lw_all := lw_g (lw_at lw_m2 147 rfl) rfl
theorem q484 : (Jvm.Cond.codeWith ({ cls := "PumpCrossingLaw", name := "station", desc := "(LPumpCrossing;III[J)I" } : Jvm.MethodName) method_3_code (6 : Nat) (Option.some Jvm.ClassFile.FieldType.int) [((0 : Nat), (12 : Nat), (15 : Nat), (13 : Nat)), ((0 : Nat), (12 : Nat), (19 : Nat), (15 : Nat))]) ∈ lw_all := lw_g (lw_at lw_m2 148 rfl) rfl
theorem q485 : (Jvm.Cond.classLink "PumpCrossingLaw" (13 : Nat) "java/lang/IllegalStateException") ∈ lw_all := lw_g (lw_at lw_m2 149 rfl) rfl
theorem q486 : (Jvm.Cond.classLink "PumpCrossingLaw" (15 : Nat) "java/lang/IllegalArgumentException") ∈ lw_all := lw_g (lw_at lw_m2 150 rfl) rfl
theorem q487 : (Jvm.Cond.methodLink "PumpCrossingLaw" (7 : Nat) ({ cls := "PumpCrossing", name := "station", desc := "(III)I" } : Jvm.MethodName)) ∈ lw_all := lw_g (lw_at lw_m2 151 rfl) rfl
theorem q722 : (Jvm.Cond.methodLink "PumpCrossingLaw" (144 : Nat) ({ cls := "PumpCrossingLaw", name := "driver", desc := "(LPumpCrossing;IIII[J)I" } : Jvm.MethodName)) ∈ lw_all := lw_g (lw_at lw_m3 146 rfl) rfl
theorem q723 : (Jvm.Cond.static ({ cls := "PumpCrossingLaw", name := "driver", desc := "(LPumpCrossing;IIII[J)I" } : Jvm.MethodName)) ∈ lw_all := lw_g (lw_at lw_m3 147 rfl) rfl
theorem q724 : (Jvm.Cond.codeWith ({ cls := "PumpCrossingLaw", name := "driver", desc := "(LPumpCrossing;IIII[J)I" } : Jvm.MethodName) method_4_code (7 : Nat) (Option.some Jvm.ClassFile.FieldType.int) [((0 : Nat), (14 : Nat), (17 : Nat), (21 : Nat)), ((0 : Nat), (14 : Nat), (21 : Nat), (15 : Nat))]) ∈ lw_all := lw_g (lw_at lw_m3 148 rfl) rfl
theorem q725 : (Jvm.Cond.classLink "PumpCrossingLaw" (21 : Nat) "java/util/NoSuchElementException") ∈ lw_all := lw_g (lw_at lw_m3 149 rfl) rfl
theorem q726 : (Jvm.Cond.methodLink "PumpCrossingLaw" (17 : Nat) ({ cls := "PumpCrossing", name := "driver", desc := "(IIII)I" } : Jvm.MethodName)) ∈ lw_all := lw_g (lw_at lw_m3 150 rfl) rfl
theorem q776 : (Jvm.Cond.methodLink "PumpCrossingLaw" (148 : Nat) ({ cls := "PumpCrossingLaw", name := "cost", desc := "(LPumpCrossing;II[J)I" } : Jvm.MethodName)) ∈ lw_all := lw_g (lw_at lw_m3 200 rfl) rfl
theorem q777 : (Jvm.Cond.static ({ cls := "PumpCrossingLaw", name := "cost", desc := "(LPumpCrossing;II[J)I" } : Jvm.MethodName)) ∈ lw_all := lw_g (lw_at lw_m3 201 rfl) rfl
theorem q778 : (Jvm.Cond.codeWith ({ cls := "PumpCrossingLaw", name := "cost", desc := "(LPumpCrossing;II[J)I" } : Jvm.MethodName) method_5_code (5 : Nat) (Option.some Jvm.ClassFile.FieldType.int) [((0 : Nat), (10 : Nat), (13 : Nat), (21 : Nat)), ((0 : Nat), (10 : Nat), (17 : Nat), (15 : Nat))]) ∈ lw_all := lw_g (lw_at lw_m3 202 rfl) rfl
theorem q779 : (Jvm.Cond.methodLink "PumpCrossingLaw" (23 : Nat) ({ cls := "PumpCrossing", name := "cost", desc := "(II)I" } : Jvm.MethodName)) ∈ lw_all := lw_g (lw_at lw_m3 203 rfl) rfl
theorem q811 : (Jvm.Cond.methodLink "PumpCrossingLaw" (152 : Nat) ({ cls := "PumpCrossingLaw", name := "late", desc := "(LPumpCrossing;II[J)I" } : Jvm.MethodName)) ∈ lw_all := lw_g (lw_at lw_m3 235 rfl) rfl
theorem q812 : (Jvm.Cond.static ({ cls := "PumpCrossingLaw", name := "late", desc := "(LPumpCrossing;II[J)I" } : Jvm.MethodName)) ∈ lw_all := lw_g (lw_at lw_m3 236 rfl) rfl
theorem q813 : (Jvm.Cond.codeWith ({ cls := "PumpCrossingLaw", name := "late", desc := "(LPumpCrossing;II[J)I" } : Jvm.MethodName) method_6_code (5 : Nat) (Option.some Jvm.ClassFile.FieldType.int) [((0 : Nat), (10 : Nat), (13 : Nat), (21 : Nat)), ((0 : Nat), (10 : Nat), (17 : Nat), (15 : Nat))]) ∈ lw_all := lw_g (lw_at lw_m3 237 rfl) rfl
theorem q814 : (Jvm.Cond.methodLink "PumpCrossingLaw" (27 : Nat) ({ cls := "PumpCrossing", name := "late", desc := "(II)I" } : Jvm.MethodName)) ∈ lw_all := lw_g (lw_at lw_m3 238 rfl) rfl
theorem q818 : (Jvm.Cond.methodLink "PumpCrossingLaw" (159 : Nat) ({ cls := "PumpCrossingLaw", name := "rules", desc := "(LPumpCrossing;II[J)I" } : Jvm.MethodName)) ∈ lw_all := lw_g (lw_at lw_m4 2 rfl) rfl
theorem q819 : (Jvm.Cond.static ({ cls := "PumpCrossingLaw", name := "rules", desc := "(LPumpCrossing;II[J)I" } : Jvm.MethodName)) ∈ lw_all := lw_g (lw_at lw_m4 3 rfl) rfl
theorem q820 : (Jvm.Cond.codeWith ({ cls := "PumpCrossingLaw", name := "rules", desc := "(LPumpCrossing;II[J)I" } : Jvm.MethodName) method_7_code (5 : Nat) (Option.some Jvm.ClassFile.FieldType.int) [((0 : Nat), (10 : Nat), (13 : Nat), (21 : Nat)), ((0 : Nat), (10 : Nat), (17 : Nat), (15 : Nat))]) ∈ lw_all := lw_g (lw_at lw_m4 4 rfl) rfl
theorem q821 : (Jvm.Cond.methodLink "PumpCrossingLaw" (30 : Nat) ({ cls := "PumpCrossing", name := "rules", desc := "(II)I" } : Jvm.MethodName)) ∈ lw_all := lw_g (lw_at lw_m4 5 rfl) rfl
theorem q1258 : (Jvm.Cond.methodLink "PumpCrossingLaw" (162 : Nat) ({ cls := "PumpCrossingLaw", name := "law", desc := "(LPumpCrossing;I[J)I" } : Jvm.MethodName)) ∈ lw_all := lw_g (lw_at lw_m5 202 rfl) rfl
theorem q1259 : (Jvm.Cond.static ({ cls := "PumpCrossingLaw", name := "law", desc := "(LPumpCrossing;I[J)I" } : Jvm.MethodName)) ∈ lw_all := lw_g (lw_at lw_m5 203 rfl) rfl
theorem q1260 : (Jvm.Cond.codeWith ({ cls := "PumpCrossingLaw", name := "law", desc := "(LPumpCrossing;I[J)I" } : Jvm.MethodName) method_8_code (4 : Nat) (Option.some Jvm.ClassFile.FieldType.int) [((0 : Nat), (9 : Nat), (12 : Nat), (15 : Nat))]) ∈ lw_all := lw_g (lw_at lw_m5 204 rfl) rfl
theorem q1261 : (Jvm.Cond.methodLink "PumpCrossingLaw" (33 : Nat) ({ cls := "PumpCrossing", name := "law", desc := "(I)I" } : Jvm.MethodName)) ∈ lw_all := lw_g (lw_at lw_m5 205 rfl) rfl
theorem q1284 : (Jvm.Cond.methodLink "PumpCrossingLaw" (170 : Nat) ({ cls := "PumpCrossingLaw", name := "run", desc := "(LPumpCrossing;I[J)I" } : Jvm.MethodName)) ∈ lw_all := lw_g (lw_at lw_m5 228 rfl) rfl
theorem q1285 : (Jvm.Cond.static ({ cls := "PumpCrossingLaw", name := "run", desc := "(LPumpCrossing;I[J)I" } : Jvm.MethodName)) ∈ lw_all := lw_g (lw_at lw_m5 229 rfl) rfl
theorem q1286 : (Jvm.Cond.codeWith ({ cls := "PumpCrossingLaw", name := "run", desc := "(LPumpCrossing;I[J)I" } : Jvm.MethodName) method_9_code (4 : Nat) (Option.some Jvm.ClassFile.FieldType.int) [((0 : Nat), (9 : Nat), (12 : Nat), (15 : Nat))]) ∈ lw_all := lw_g (lw_at lw_m5 230 rfl) rfl
theorem q1287 : (Jvm.Cond.methodLink "PumpCrossingLaw" (37 : Nat) ({ cls := "PumpCrossing", name := "run", desc := "(I)I" } : Jvm.MethodName)) ∈ lw_all := lw_g (lw_at lw_m5 231 rfl) rfl
theorem q1420 : (Jvm.Cond.methodLink "PumpCrossingLaw" (173 : Nat) ({ cls := "PumpCrossingLaw", name := "price", desc := "(LPumpCrossing;I[J)I" } : Jvm.MethodName)) ∈ lw_all := lw_g (lw_at lw_m6 124 rfl) rfl
theorem q1421 : (Jvm.Cond.static ({ cls := "PumpCrossingLaw", name := "price", desc := "(LPumpCrossing;I[J)I" } : Jvm.MethodName)) ∈ lw_all := lw_g (lw_at lw_m6 125 rfl) rfl
theorem q1422 : (Jvm.Cond.codeWith ({ cls := "PumpCrossingLaw", name := "price", desc := "(LPumpCrossing;I[J)I" } : Jvm.MethodName) method_10_code (4 : Nat) (Option.some Jvm.ClassFile.FieldType.int) [((0 : Nat), (9 : Nat), (12 : Nat), (21 : Nat))]) ∈ lw_all := lw_g (lw_at lw_m6 126 rfl) rfl
theorem q1423 : (Jvm.Cond.methodLink "PumpCrossingLaw" (40 : Nat) ({ cls := "PumpCrossing", name := "price", desc := "(I)I" } : Jvm.MethodName)) ∈ lw_all := lw_g (lw_at lw_m6 127 rfl) rfl
theorem q1427 : (Jvm.Cond.methodLink "PumpCrossingLaw" (176 : Nat) ({ cls := "PumpCrossingLaw", name := "board", desc := "(LPumpCrossing;II[J)I" } : Jvm.MethodName)) ∈ lw_all := lw_g (lw_at lw_m6 131 rfl) rfl
theorem q1428 : (Jvm.Cond.static ({ cls := "PumpCrossingLaw", name := "board", desc := "(LPumpCrossing;II[J)I" } : Jvm.MethodName)) ∈ lw_all := lw_g (lw_at lw_m6 132 rfl) rfl
theorem q1429 : (Jvm.Cond.codeWith ({ cls := "PumpCrossingLaw", name := "board", desc := "(LPumpCrossing;II[J)I" } : Jvm.MethodName) method_11_code (5 : Nat) (Option.some Jvm.ClassFile.FieldType.int) [((0 : Nat), (10 : Nat), (13 : Nat), (21 : Nat))]) ∈ lw_all := lw_g (lw_at lw_m6 133 rfl) rfl
theorem q1430 : (Jvm.Cond.methodLink "PumpCrossingLaw" (43 : Nat) ({ cls := "PumpCrossing", name := "board", desc := "(II)I" } : Jvm.MethodName)) ∈ lw_all := lw_g (lw_at lw_m6 134 rfl) rfl
theorem q1434 : (Jvm.Cond.methodLink "PumpCrossingLaw" (179 : Nat) ({ cls := "PumpCrossingLaw", name := "would", desc := "(LPumpCrossing;I[J)I" } : Jvm.MethodName)) ∈ lw_all := lw_g (lw_at lw_m6 138 rfl) rfl
theorem q1435 : (Jvm.Cond.static ({ cls := "PumpCrossingLaw", name := "would", desc := "(LPumpCrossing;I[J)I" } : Jvm.MethodName)) ∈ lw_all := lw_g (lw_at lw_m6 139 rfl) rfl
theorem q1436 : (Jvm.Cond.codeWith ({ cls := "PumpCrossingLaw", name := "would", desc := "(LPumpCrossing;I[J)I" } : Jvm.MethodName) method_12_code (4 : Nat) (Option.some Jvm.ClassFile.FieldType.int) [((0 : Nat), (9 : Nat), (12 : Nat), (21 : Nat))]) ∈ lw_all := lw_g (lw_at lw_m6 140 rfl) rfl
theorem q1437 : (Jvm.Cond.methodLink "PumpCrossingLaw" (46 : Nat) ({ cls := "PumpCrossing", name := "would", desc := "(I)I" } : Jvm.MethodName)) ∈ lw_all := lw_g (lw_at lw_m6 141 rfl) rfl
theorem q1441 : (Jvm.Cond.methodLink "PumpCrossingLaw" (182 : Nat) ({ cls := "PumpCrossingLaw", name := "of", desc := "(LPumpCrossing;II[J)I" } : Jvm.MethodName)) ∈ lw_all := lw_g (lw_at lw_m6 145 rfl) rfl
theorem q1442 : (Jvm.Cond.static ({ cls := "PumpCrossingLaw", name := "of", desc := "(LPumpCrossing;II[J)I" } : Jvm.MethodName)) ∈ lw_all := lw_g (lw_at lw_m6 146 rfl) rfl
theorem q1443 : (Jvm.Cond.codeWith ({ cls := "PumpCrossingLaw", name := "of", desc := "(LPumpCrossing;II[J)I" } : Jvm.MethodName) method_13_code (5 : Nat) (Option.some Jvm.ClassFile.FieldType.int) [((0 : Nat), (9 : Nat), (12 : Nat), (21 : Nat)), ((0 : Nat), (9 : Nat), (16 : Nat), (15 : Nat))]) ∈ lw_all := lw_g (lw_at lw_m6 147 rfl) rfl
theorem q1444 : (Jvm.Cond.methodLink "PumpCrossingLaw" (49 : Nat) ({ cls := "PumpCrossing", name := "of", desc := "(II)J" } : Jvm.MethodName)) ∈ lw_all := lw_g (lw_at lw_m6 148 rfl) rfl
theorem q1450 : (Jvm.Cond.methodLink "PumpCrossingLaw" (185 : Nat) ({ cls := "PumpCrossingLaw", name := "fills", desc := "(LPumpCrossing;I[J)I" } : Jvm.MethodName)) ∈ lw_all := lw_g (lw_at lw_m6 154 rfl) rfl
theorem q1451 : (Jvm.Cond.static ({ cls := "PumpCrossingLaw", name := "fills", desc := "(LPumpCrossing;I[J)I" } : Jvm.MethodName)) ∈ lw_all := lw_g (lw_at lw_m6 155 rfl) rfl
theorem q1452 : (Jvm.Cond.codeWith ({ cls := "PumpCrossingLaw", name := "fills", desc := "(LPumpCrossing;I[J)I" } : Jvm.MethodName) method_14_code (4 : Nat) (Option.some Jvm.ClassFile.FieldType.int) [((0 : Nat), (9 : Nat), (12 : Nat), (21 : Nat))]) ∈ lw_all := lw_g (lw_at lw_m6 156 rfl) rfl
theorem q1453 : (Jvm.Cond.methodLink "PumpCrossingLaw" (53 : Nat) ({ cls := "PumpCrossing", name := "fills", desc := "(I)I" } : Jvm.MethodName)) ∈ lw_all := lw_g (lw_at lw_m6 157 rfl) rfl
theorem q1461 : (Jvm.Cond.methodLink "PumpCrossingLaw" (192 : Nat) ({ cls := "PumpCrossingLaw", name := "leads", desc := "(LPumpCrossing;IZ[J)I" } : Jvm.MethodName)) ∈ lw_all := lw_g (lw_at lw_m6 165 rfl) rfl
theorem q1462 : (Jvm.Cond.static ({ cls := "PumpCrossingLaw", name := "leads", desc := "(LPumpCrossing;IZ[J)I" } : Jvm.MethodName)) ∈ lw_all := lw_g (lw_at lw_m6 166 rfl) rfl
theorem q1463 : (Jvm.Cond.codeWith ({ cls := "PumpCrossingLaw", name := "leads", desc := "(LPumpCrossing;IZ[J)I" } : Jvm.MethodName) method_15_code (5 : Nat) (Option.some Jvm.ClassFile.FieldType.int) [((0 : Nat), (10 : Nat), (13 : Nat), (21 : Nat))]) ∈ lw_all := lw_g (lw_at lw_m6 167 rfl) rfl
theorem q1464 : (Jvm.Cond.methodLink "PumpCrossingLaw" (56 : Nat) ({ cls := "PumpCrossing", name := "leads", desc := "(IZ)I" } : Jvm.MethodName)) ∈ lw_all := lw_g (lw_at lw_m6 168 rfl) rfl
theorem q1480 : (Jvm.Cond.methodLink "PumpCrossingLaw" (196 : Nat) ({ cls := "PumpCrossingLaw", name := "passed", desc := "(LPumpCrossing;IIZ[J)I" } : Jvm.MethodName)) ∈ lw_all := lw_g (lw_at lw_m6 184 rfl) rfl
theorem q1481 : (Jvm.Cond.static ({ cls := "PumpCrossingLaw", name := "passed", desc := "(LPumpCrossing;IIZ[J)I" } : Jvm.MethodName)) ∈ lw_all := lw_g (lw_at lw_m6 185 rfl) rfl
theorem q1482 : (Jvm.Cond.codeWith ({ cls := "PumpCrossingLaw", name := "passed", desc := "(LPumpCrossing;IIZ[J)I" } : Jvm.MethodName) method_16_code (6 : Nat) (Option.some Jvm.ClassFile.FieldType.int) [((0 : Nat), (19 : Nat), (22 : Nat), (21 : Nat)), ((0 : Nat), (19 : Nat), (26 : Nat), (15 : Nat))]) ∈ lw_all := lw_g (lw_at lw_m6 186 rfl) rfl
theorem q1483 : (Jvm.Cond.methodLink "PumpCrossingLaw" (60 : Nat) ({ cls := "PumpCrossing", name := "passed", desc := "(IIZ)Z" } : Jvm.MethodName)) ∈ lw_all := lw_g (lw_at lw_m6 187 rfl) rfl
theorem q1491 : (Jvm.Cond.methodLink "PumpCrossingLaw" (209 : Nat) ({ cls := "PumpCrossingLaw", name := "level", desc := "(LPumpCrossing;I[J)I" } : Jvm.MethodName)) ∈ lw_all := lw_g (lw_at lw_m6 195 rfl) rfl
theorem q1492 : (Jvm.Cond.static ({ cls := "PumpCrossingLaw", name := "level", desc := "(LPumpCrossing;I[J)I" } : Jvm.MethodName)) ∈ lw_all := lw_g (lw_at lw_m6 196 rfl) rfl
theorem q1493 : (Jvm.Cond.codeWith ({ cls := "PumpCrossingLaw", name := "level", desc := "(LPumpCrossing;I[J)I" } : Jvm.MethodName) method_17_code (4 : Nat) (Option.some Jvm.ClassFile.FieldType.int) [((0 : Nat), (9 : Nat), (12 : Nat), (15 : Nat))]) ∈ lw_all := lw_g (lw_at lw_m6 197 rfl) rfl
theorem q1494 : (Jvm.Cond.methodLink "PumpCrossingLaw" (64 : Nat) ({ cls := "PumpCrossing", name := "level", desc := "(I)I" } : Jvm.MethodName)) ∈ lw_all := lw_g (lw_at lw_m6 198 rfl) rfl
theorem q1498 : (Jvm.Cond.methodLink "PumpCrossingLaw" (212 : Nat) ({ cls := "PumpCrossingLaw", name := "gain", desc := "(LPumpCrossing;IIIIZ[J)I" } : Jvm.MethodName)) ∈ lw_all := lw_g (lw_at lw_m6 202 rfl) rfl
theorem q1499 : (Jvm.Cond.static ({ cls := "PumpCrossingLaw", name := "gain", desc := "(LPumpCrossing;IIIIZ[J)I" } : Jvm.MethodName)) ∈ lw_all := lw_g (lw_at lw_m6 203 rfl) rfl
theorem q1500 : (Jvm.Cond.codeWith ({ cls := "PumpCrossingLaw", name := "gain", desc := "(LPumpCrossing;IIIIZ[J)I" } : Jvm.MethodName) method_18_code (8 : Nat) (Option.some Jvm.ClassFile.FieldType.int) [((0 : Nat), (16 : Nat), (19 : Nat), (21 : Nat)), ((0 : Nat), (16 : Nat), (23 : Nat), (15 : Nat)), ((0 : Nat), (16 : Nat), (27 : Nat), (71 : Nat))]) ∈ lw_all := lw_g (lw_at lw_m6 204 rfl) rfl
theorem q1501 : (Jvm.Cond.classLink "PumpCrossingLaw" (71 : Nat) "java/lang/IndexOutOfBoundsException") ∈ lw_all := lw_g (lw_at lw_m6 205 rfl) rfl
theorem q1533 : (Jvm.Cond.methodLink "PumpCrossingLaw" (67 : Nat) ({ cls := "PumpCrossing", name := "gain", desc := "(IIIIZ)I" } : Jvm.MethodName)) ∈ lw_all := lw_g (lw_at lw_m6 237 rfl) rfl
theorem q1567 : (Jvm.Cond.methodLink "PumpCrossingLaw" (216 : Nat) ({ cls := "PumpCrossingLaw", name := "reply", desc := "(LPumpCrossing;III[J)I" } : Jvm.MethodName)) ∈ lw_all := lw_g (lw_at lw_m7 31 rfl) rfl
theorem q1568 : (Jvm.Cond.static ({ cls := "PumpCrossingLaw", name := "reply", desc := "(LPumpCrossing;III[J)I" } : Jvm.MethodName)) ∈ lw_all := lw_g (lw_at lw_m7 32 rfl) rfl
theorem q1569 : (Jvm.Cond.codeWith ({ cls := "PumpCrossingLaw", name := "reply", desc := "(LPumpCrossing;III[J)I" } : Jvm.MethodName) method_19_code (6 : Nat) (Option.some Jvm.ClassFile.FieldType.int) [((0 : Nat), (12 : Nat), (15 : Nat), (21 : Nat)), ((0 : Nat), (12 : Nat), (19 : Nat), (15 : Nat)), ((0 : Nat), (12 : Nat), (23 : Nat), (71 : Nat))]) ∈ lw_all := lw_g (lw_at lw_m7 33 rfl) rfl
theorem q1570 : (Jvm.Cond.methodLink "PumpCrossingLaw" (73 : Nat) ({ cls := "PumpCrossing", name := "reply", desc := "(III)I" } : Jvm.MethodName)) ∈ lw_all := lw_g (lw_at lw_m7 34 rfl) rfl
theorem q1578 : (Jvm.Cond.methodLink "PumpCrossingLaw" (219 : Nat) ({ cls := "PumpCrossingLaw", name := "even", desc := "(LPumpCrossing;III[J)I" } : Jvm.MethodName)) ∈ lw_all := lw_g (lw_at lw_m7 42 rfl) rfl
theorem q1579 : (Jvm.Cond.static ({ cls := "PumpCrossingLaw", name := "even", desc := "(LPumpCrossing;III[J)I" } : Jvm.MethodName)) ∈ lw_all := lw_g (lw_at lw_m7 43 rfl) rfl
theorem q1580 : (Jvm.Cond.codeWith ({ cls := "PumpCrossingLaw", name := "even", desc := "(LPumpCrossing;III[J)I" } : Jvm.MethodName) method_20_code (6 : Nat) (Option.some Jvm.ClassFile.FieldType.int) [((0 : Nat), (12 : Nat), (15 : Nat), (21 : Nat)), ((0 : Nat), (12 : Nat), (19 : Nat), (15 : Nat))]) ∈ lw_all := lw_g (lw_at lw_m7 44 rfl) rfl
theorem q1581 : (Jvm.Cond.methodLink "PumpCrossingLaw" (76 : Nat) ({ cls := "PumpCrossing", name := "even", desc := "(III)I" } : Jvm.MethodName)) ∈ lw_all := lw_g (lw_at lw_m7 45 rfl) rfl
theorem q1593 : (Jvm.Cond.methodLink "PumpCrossingLaw" (222 : Nat) ({ cls := "PumpCrossingLaw", name := "joint", desc := "(LPumpCrossing;II[J)I" } : Jvm.MethodName)) ∈ lw_all := lw_g (lw_at lw_m7 57 rfl) rfl
theorem q1594 : (Jvm.Cond.static ({ cls := "PumpCrossingLaw", name := "joint", desc := "(LPumpCrossing;II[J)I" } : Jvm.MethodName)) ∈ lw_all := lw_g (lw_at lw_m7 58 rfl) rfl
theorem q1595 : (Jvm.Cond.codeWith ({ cls := "PumpCrossingLaw", name := "joint", desc := "(LPumpCrossing;II[J)I" } : Jvm.MethodName) method_21_code (5 : Nat) (Option.some Jvm.ClassFile.FieldType.int) [((0 : Nat), (10 : Nat), (13 : Nat), (21 : Nat)), ((0 : Nat), (10 : Nat), (17 : Nat), (15 : Nat))]) ∈ lw_all := lw_g (lw_at lw_m7 59 rfl) rfl
theorem q1596 : (Jvm.Cond.methodLink "PumpCrossingLaw" (79 : Nat) ({ cls := "PumpCrossing", name := "joint", desc := "(II)I" } : Jvm.MethodName)) ∈ lw_all := lw_g (lw_at lw_m7 60 rfl) rfl
theorem q1604 : (Jvm.Cond.methodLink "PumpCrossingLaw" (225 : Nat) ({ cls := "PumpCrossingLaw", name := "turn", desc := "(LPumpCrossing;IIIII[J)I" } : Jvm.MethodName)) ∈ lw_all := lw_g (lw_at lw_m7 68 rfl) rfl
theorem q1605 : (Jvm.Cond.static ({ cls := "PumpCrossingLaw", name := "turn", desc := "(LPumpCrossing;IIIII[J)I" } : Jvm.MethodName)) ∈ lw_all := lw_g (lw_at lw_m7 69 rfl) rfl
theorem q1606 : (Jvm.Cond.codeWith ({ cls := "PumpCrossingLaw", name := "turn", desc := "(LPumpCrossing;IIIII[J)I" } : Jvm.MethodName) method_22_code (8 : Nat) (Option.some Jvm.ClassFile.FieldType.int) [((0 : Nat), (16 : Nat), (19 : Nat), (21 : Nat)), ((0 : Nat), (16 : Nat), (23 : Nat), (15 : Nat)), ((0 : Nat), (16 : Nat), (27 : Nat), (71 : Nat))]) ∈ lw_all := lw_g (lw_at lw_m7 70 rfl) rfl
theorem q1607 : (Jvm.Cond.methodLink "PumpCrossingLaw" (82 : Nat) ({ cls := "PumpCrossing", name := "turn", desc := "(IIIII)I" } : Jvm.MethodName)) ∈ lw_all := lw_g (lw_at lw_m7 71 rfl) rfl
theorem q1620 : (Jvm.Cond.methodLink "PumpCrossingLaw" (229 : Nat) ({ cls := "PumpCrossingLaw", name := "gains", desc := "(LPumpCrossing;IIIIZ[J)I" } : Jvm.MethodName)) ∈ lw_all := lw_g (lw_at lw_m7 84 rfl) rfl
theorem q1621 : (Jvm.Cond.static ({ cls := "PumpCrossingLaw", name := "gains", desc := "(LPumpCrossing;IIIIZ[J)I" } : Jvm.MethodName)) ∈ lw_all := lw_g (lw_at lw_m7 85 rfl) rfl
theorem q1622 : (Jvm.Cond.codeWith ({ cls := "PumpCrossingLaw", name := "gains", desc := "(LPumpCrossing;IIIIZ[J)I" } : Jvm.MethodName) method_23_code (8 : Nat) (Option.some Jvm.ClassFile.FieldType.int) [((0 : Nat), (15 : Nat), (18 : Nat), (21 : Nat)), ((0 : Nat), (15 : Nat), (22 : Nat), (15 : Nat)), ((0 : Nat), (15 : Nat), (26 : Nat), (71 : Nat))]) ∈ lw_all := lw_g (lw_at lw_m7 86 rfl) rfl
theorem q1623 : (Jvm.Cond.methodLink "PumpCrossingLaw" (86 : Nat) ({ cls := "PumpCrossing", name := "gains", desc := "(IIIIZ)J" } : Jvm.MethodName)) ∈ lw_all := lw_g (lw_at lw_m7 87 rfl) rfl
theorem q1627 : (Jvm.Cond.methodLink "PumpCrossingLaw" (232 : Nat) ({ cls := "PumpCrossingLaw", name := "learn", desc := "(LPumpCrossing;IIII[J)I" } : Jvm.MethodName)) ∈ lw_all := lw_g (lw_at lw_m7 91 rfl) rfl
theorem q1628 : (Jvm.Cond.static ({ cls := "PumpCrossingLaw", name := "learn", desc := "(LPumpCrossing;IIII[J)I" } : Jvm.MethodName)) ∈ lw_all := lw_g (lw_at lw_m7 92 rfl) rfl
theorem q1629 : (Jvm.Cond.codeWith ({ cls := "PumpCrossingLaw", name := "learn", desc := "(LPumpCrossing;IIII[J)I" } : Jvm.MethodName) method_24_code (7 : Nat) (Option.some Jvm.ClassFile.FieldType.int) [((0 : Nat), (14 : Nat), (17 : Nat), (21 : Nat)), ((0 : Nat), (14 : Nat), (21 : Nat), (15 : Nat))]) ∈ lw_all := lw_g (lw_at lw_m7 93 rfl) rfl
theorem q1630 : (Jvm.Cond.methodLink "PumpCrossingLaw" (90 : Nat) ({ cls := "PumpCrossing", name := "learn", desc := "(IIII)I" } : Jvm.MethodName)) ∈ lw_all := lw_g (lw_at lw_m7 94 rfl) rfl
theorem q1656 : (Jvm.Cond.methodLink "PumpCrossingLaw" (235 : Nat) ({ cls := "PumpCrossingLaw", name := "above", desc := "(LPumpCrossing;IIII[J)I" } : Jvm.MethodName)) ∈ lw_all := lw_g (lw_at lw_m7 120 rfl) rfl
theorem q1657 : (Jvm.Cond.static ({ cls := "PumpCrossingLaw", name := "above", desc := "(LPumpCrossing;IIII[J)I" } : Jvm.MethodName)) ∈ lw_all := lw_g (lw_at lw_m7 121 rfl) rfl
theorem q1658 : (Jvm.Cond.codeWith ({ cls := "PumpCrossingLaw", name := "above", desc := "(LPumpCrossing;IIII[J)I" } : Jvm.MethodName) method_25_code (7 : Nat) (Option.some Jvm.ClassFile.FieldType.int) [((0 : Nat), (14 : Nat), (17 : Nat), (21 : Nat)), ((0 : Nat), (14 : Nat), (21 : Nat), (15 : Nat))]) ∈ lw_all := lw_g (lw_at lw_m7 122 rfl) rfl
theorem q1659 : (Jvm.Cond.methodLink "PumpCrossingLaw" (93 : Nat) ({ cls := "PumpCrossing", name := "above", desc := "(IIII)I" } : Jvm.MethodName)) ∈ lw_all := lw_g (lw_at lw_m7 123 rfl) rfl
theorem q1663 : (Jvm.Cond.methodLink "PumpCrossingLaw" (238 : Nat) ({ cls := "PumpCrossingLaw", name := "punish", desc := "(LPumpCrossing;IIIII[J)I" } : Jvm.MethodName)) ∈ lw_all := lw_g (lw_at lw_m7 127 rfl) rfl
theorem q1664 : (Jvm.Cond.static ({ cls := "PumpCrossingLaw", name := "punish", desc := "(LPumpCrossing;IIIII[J)I" } : Jvm.MethodName)) ∈ lw_all := lw_g (lw_at lw_m7 128 rfl) rfl
theorem q1665 : (Jvm.Cond.codeWith ({ cls := "PumpCrossingLaw", name := "punish", desc := "(LPumpCrossing;IIIII[J)I" } : Jvm.MethodName) method_26_code (8 : Nat) (Option.some Jvm.ClassFile.FieldType.int) [((0 : Nat), (16 : Nat), (19 : Nat), (21 : Nat)), ((0 : Nat), (16 : Nat), (23 : Nat), (15 : Nat)), ((0 : Nat), (16 : Nat), (27 : Nat), (71 : Nat))]) ∈ lw_all := lw_g (lw_at lw_m7 129 rfl) rfl
theorem q1666 : (Jvm.Cond.methodLink "PumpCrossingLaw" (96 : Nat) ({ cls := "PumpCrossing", name := "punish", desc := "(IIIII)I" } : Jvm.MethodName)) ∈ lw_all := lw_g (lw_at lw_m7 130 rfl) rfl
theorem q1671 : (Jvm.Cond.methodLink "PumpCrossingLaw" (241 : Nat) ({ cls := "PumpCrossingLaw", name := "story", desc := "(LPumpCrossing;II[J)I" } : Jvm.MethodName)) ∈ lw_all := lw_g (lw_at lw_m7 135 rfl) rfl
theorem q1672 : (Jvm.Cond.static ({ cls := "PumpCrossingLaw", name := "story", desc := "(LPumpCrossing;II[J)I" } : Jvm.MethodName)) ∈ lw_all := lw_g (lw_at lw_m7 136 rfl) rfl
theorem q1673 : (Jvm.Cond.codeWith ({ cls := "PumpCrossingLaw", name := "story", desc := "(LPumpCrossing;II[J)I" } : Jvm.MethodName) method_27_code (5 : Nat) (Option.some Jvm.ClassFile.FieldType.int) [((0 : Nat), (17 : Nat), (20 : Nat), (21 : Nat)), ((0 : Nat), (17 : Nat), (24 : Nat), (13 : Nat))]) ∈ lw_all := lw_g (lw_at lw_m7 137 rfl) rfl
theorem q1674 : (Jvm.Cond.methodLink "PumpCrossingLaw" (99 : Nat) ({ cls := "PumpCrossing", name := "story", desc := "(II)Z" } : Jvm.MethodName)) ∈ lw_all := lw_g (lw_at lw_m7 138 rfl) rfl
theorem q1720 : (Jvm.Cond.methodLink "PumpCrossingLaw" (244 : Nat) ({ cls := "PumpCrossingLaw", name := "rise", desc := "(LPumpCrossing;III[J)I" } : Jvm.MethodName)) ∈ lw_all := lw_g (lw_at lw_m7 184 rfl) rfl
theorem q1721 : (Jvm.Cond.static ({ cls := "PumpCrossingLaw", name := "rise", desc := "(LPumpCrossing;III[J)I" } : Jvm.MethodName)) ∈ lw_all := lw_g (lw_at lw_m7 185 rfl) rfl
theorem q1722 : (Jvm.Cond.codeWith ({ cls := "PumpCrossingLaw", name := "rise", desc := "(LPumpCrossing;III[J)I" } : Jvm.MethodName) method_28_code (6 : Nat) (Option.some Jvm.ClassFile.FieldType.int) [((0 : Nat), (12 : Nat), (15 : Nat), (15 : Nat))]) ∈ lw_all := lw_g (lw_at lw_m7 186 rfl) rfl
theorem q1723 : (Jvm.Cond.methodLink "PumpCrossingLaw" (103 : Nat) ({ cls := "PumpCrossing", name := "rise", desc := "(III)I" } : Jvm.MethodName)) ∈ lw_all := lw_g (lw_at lw_m7 187 rfl) rfl
theorem q1728 : (Jvm.Cond.methodLink "PumpCrossingLaw" (251 : Nat) ({ cls := "PumpCrossingLaw", name := "fill", desc := "(LPumpCrossing;IIII[J)I" } : Jvm.MethodName)) ∈ lw_all := lw_g (lw_at lw_m7 192 rfl) rfl
theorem q1729 : (Jvm.Cond.static ({ cls := "PumpCrossingLaw", name := "fill", desc := "(LPumpCrossing;IIII[J)I" } : Jvm.MethodName)) ∈ lw_all := lw_g (lw_at lw_m7 193 rfl) rfl
theorem q1730 : (Jvm.Cond.codeWith ({ cls := "PumpCrossingLaw", name := "fill", desc := "(LPumpCrossing;IIII[J)I" } : Jvm.MethodName) method_29_code (7 : Nat) (Option.some Jvm.ClassFile.FieldType.int) [((0 : Nat), (14 : Nat), (17 : Nat), (21 : Nat)), ((0 : Nat), (14 : Nat), (21 : Nat), (13 : Nat)), ((0 : Nat), (14 : Nat), (25 : Nat), (15 : Nat))]) ∈ lw_all := lw_g (lw_at lw_m7 194 rfl) rfl
theorem q1731 : (Jvm.Cond.methodLink "PumpCrossingLaw" (106 : Nat) ({ cls := "PumpCrossing", name := "fill", desc := "(IIII)I" } : Jvm.MethodName)) ∈ lw_all := lw_g (lw_at lw_m7 195 rfl) rfl
theorem q1742 : (Jvm.Cond.methodLink "PumpCrossingLaw" (254 : Nat) ({ cls := "PumpCrossingLaw", name := "told", desc := "(LPumpCrossing;IIII[J)I" } : Jvm.MethodName)) ∈ lw_all := lw_g (lw_at lw_m7 206 rfl) rfl
theorem q1743 : (Jvm.Cond.static ({ cls := "PumpCrossingLaw", name := "told", desc := "(LPumpCrossing;IIII[J)I" } : Jvm.MethodName)) ∈ lw_all := lw_g (lw_at lw_m7 207 rfl) rfl
theorem q1744 : (Jvm.Cond.codeWith ({ cls := "PumpCrossingLaw", name := "told", desc := "(LPumpCrossing;IIII[J)I" } : Jvm.MethodName) method_30_code (7 : Nat) (Option.some Jvm.ClassFile.FieldType.int) [((0 : Nat), (14 : Nat), (17 : Nat), (13 : Nat)), ((0 : Nat), (14 : Nat), (21 : Nat), (15 : Nat))]) ∈ lw_all := lw_g (lw_at lw_m7 208 rfl) rfl
theorem q1745 : (Jvm.Cond.methodLink "PumpCrossingLaw" (109 : Nat) ({ cls := "PumpCrossing", name := "told", desc := "(IIII)I" } : Jvm.MethodName)) ∈ lw_all := lw_g (lw_at lw_m7 209 rfl) rfl
theorem q1749 : (Jvm.Cond.methodLink "PumpCrossingLaw" (257 : Nat) ({ cls := "PumpCrossingLaw", name := "fit", desc := "(LPumpCrossing;I[J)I" } : Jvm.MethodName)) ∈ lw_all := lw_g (lw_at lw_m7 213 rfl) rfl
theorem q1750 : (Jvm.Cond.static ({ cls := "PumpCrossingLaw", name := "fit", desc := "(LPumpCrossing;I[J)I" } : Jvm.MethodName)) ∈ lw_all := lw_g (lw_at lw_m7 214 rfl) rfl
theorem q1751 : (Jvm.Cond.codeWith ({ cls := "PumpCrossingLaw", name := "fit", desc := "(LPumpCrossing;I[J)I" } : Jvm.MethodName) method_31_code (4 : Nat) (Option.some Jvm.ClassFile.FieldType.int) [((0 : Nat), (9 : Nat), (12 : Nat), (21 : Nat))]) ∈ lw_all := lw_g (lw_at lw_m7 215 rfl) rfl
theorem q1752 : (Jvm.Cond.methodLink "PumpCrossingLaw" (112 : Nat) ({ cls := "PumpCrossing", name := "fit", desc := "(I)I" } : Jvm.MethodName)) ∈ lw_all := lw_g (lw_at lw_m7 216 rfl) rfl
theorem q1756 : (Jvm.Cond.methodLink "PumpCrossingLaw" (260 : Nat) ({ cls := "PumpCrossingLaw", name := "tray", desc := "(LPumpCrossing;III)I" } : Jvm.MethodName)) ∈ lw_all := lw_g (lw_at lw_m7 220 rfl) rfl
theorem q1757 : (Jvm.Cond.static ({ cls := "PumpCrossingLaw", name := "tray", desc := "(LPumpCrossing;III)I" } : Jvm.MethodName)) ∈ lw_all := lw_g (lw_at lw_m7 221 rfl) rfl
theorem q1758 : (Jvm.Cond.codeWith ({ cls := "PumpCrossingLaw", name := "tray", desc := "(LPumpCrossing;III)I" } : Jvm.MethodName) method_32_code (5 : Nat) (Option.some Jvm.ClassFile.FieldType.int) [((0 : Nat), (7 : Nat), (10 : Nat), (21 : Nat)), ((0 : Nat), (7 : Nat), (14 : Nat), (15 : Nat))]) ∈ lw_all := lw_g (lw_at lw_m7 222 rfl) rfl
theorem q1759 : (Jvm.Cond.methodLink "PumpCrossingLaw" (115 : Nat) ({ cls := "PumpCrossing", name := "tray", desc := "(III)V" } : Jvm.MethodName)) ∈ lw_all := lw_g (lw_at lw_m7 223 rfl) rfl
theorem q1782 : (Jvm.Cond.methodLink "PumpCrossingLaw" (266 : Nat) ({ cls := "PumpCrossingLaw", name := "write", desc := "(LPumpCrossing;IIJ[J)I" } : Jvm.MethodName)) ∈ lw_all := lw_g (lw_at lw_m8 6 rfl) rfl
theorem q1783 : (Jvm.Cond.static ({ cls := "PumpCrossingLaw", name := "write", desc := "(LPumpCrossing;IIJ[J)I" } : Jvm.MethodName)) ∈ lw_all := lw_g (lw_at lw_m8 7 rfl) rfl
theorem q1784 : (Jvm.Cond.codeWith ({ cls := "PumpCrossingLaw", name := "write", desc := "(LPumpCrossing;IIJ[J)I" } : Jvm.MethodName) method_33_code (7 : Nat) (Option.some Jvm.ClassFile.FieldType.int) [((0 : Nat), (11 : Nat), (14 : Nat), (21 : Nat)), ((0 : Nat), (11 : Nat), (18 : Nat), (13 : Nat)), ((0 : Nat), (11 : Nat), (22 : Nat), (71 : Nat))]) ∈ lw_all := lw_g (lw_at lw_m8 8 rfl) rfl
theorem q1785 : (Jvm.Cond.methodLink "PumpCrossingLaw" (119 : Nat) ({ cls := "PumpCrossing", name := "write", desc := "(IIJ)J" } : Jvm.MethodName)) ∈ lw_all := lw_g (lw_at lw_m8 9 rfl) rfl
theorem q1794 : (Jvm.Cond.methodLink "PumpCrossingLaw" (270 : Nat) ({ cls := "PumpCrossingLaw", name := "image", desc := "(LPumpCrossing;I)I" } : Jvm.MethodName)) ∈ lw_all := lw_g (lw_at lw_m8 18 rfl) rfl
theorem q1795 : (Jvm.Cond.static ({ cls := "PumpCrossingLaw", name := "image", desc := "(LPumpCrossing;I)I" } : Jvm.MethodName)) ∈ lw_all := lw_g (lw_at lw_m8 19 rfl) rfl
theorem q1796 : (Jvm.Cond.codeWith ({ cls := "PumpCrossingLaw", name := "image", desc := "(LPumpCrossing;I)I" } : Jvm.MethodName) method_34_code (3 : Nat) (Option.some Jvm.ClassFile.FieldType.int) [((0 : Nat), (5 : Nat), (8 : Nat), (21 : Nat))]) ∈ lw_all := lw_g (lw_at lw_m8 20 rfl) rfl
theorem q1797 : (Jvm.Cond.methodLink "PumpCrossingLaw" (123 : Nat) ({ cls := "PumpCrossing", name := "image", desc := "(I)V" } : Jvm.MethodName)) ∈ lw_all := lw_g (lw_at lw_m8 21 rfl) rfl
theorem q1815 : (Jvm.Cond.methodLink "PumpCrossingLaw" (274 : Nat) ({ cls := "PumpCrossingLaw", name := "restore", desc := "(LPumpCrossing;I)I" } : Jvm.MethodName)) ∈ lw_all := lw_g (lw_at lw_m8 39 rfl) rfl
theorem q1816 : (Jvm.Cond.static ({ cls := "PumpCrossingLaw", name := "restore", desc := "(LPumpCrossing;I)I" } : Jvm.MethodName)) ∈ lw_all := lw_g (lw_at lw_m8 40 rfl) rfl
theorem q1817 : (Jvm.Cond.codeWith ({ cls := "PumpCrossingLaw", name := "restore", desc := "(LPumpCrossing;I)I" } : Jvm.MethodName) method_35_code (3 : Nat) (Option.some Jvm.ClassFile.FieldType.int) [((0 : Nat), (5 : Nat), (8 : Nat), (21 : Nat)), ((0 : Nat), (5 : Nat), (11 : Nat), (13 : Nat))]) ∈ lw_all := lw_g (lw_at lw_m8 41 rfl) rfl
theorem q1818 : (Jvm.Cond.methodLink "PumpCrossingLaw" (127 : Nat) ({ cls := "PumpCrossing", name := "restore", desc := "(I)V" } : Jvm.MethodName)) ∈ lw_all := lw_g (lw_at lw_m8 42 rfl) rfl
theorem q1822 : (Jvm.Cond.classLink "PumpCrossingLaw" (131 : Nat) "PumpCrossingModel") ∈ lw_all := lw_g (lw_at lw_m8 46 rfl) rfl
theorem q1824 : (Jvm.Cond.methodLink "PumpCrossingLaw" (133 : Nat) ({ cls := "PumpCrossingModel", name := "<init>", desc := "()V" } : Jvm.MethodName)) ∈ lw_all := lw_g (lw_at lw_m8 48 rfl) rfl
theorem q1950 : (Jvm.Cond.methodLink "PumpCrossingLaw" (140 : Nat) ({ cls := "PumpCrossingModel", name := "thrown", desc := "()I" } : Jvm.MethodName)) ∈ lw_all := lw_g (lw_at lw_m8 174 rfl) rfl
theorem q1954 : (Jvm.Cond.methodLink "PumpCrossingLaw" (139 : Nat) ({ cls := "PumpCrossingModel", name := "station", desc := "(III)I" } : Jvm.MethodName)) ∈ lw_all := lw_g (lw_at lw_m8 178 rfl) rfl
theorem q1967 : (Jvm.Cond.methodLink "PumpCrossingLaw" (147 : Nat) ({ cls := "PumpCrossingModel", name := "driver", desc := "(IIII)I" } : Jvm.MethodName)) ∈ lw_all := lw_g (lw_at lw_m8 191 rfl) rfl
theorem q1976 : (Jvm.Cond.methodLink "PumpCrossingLaw" (151 : Nat) ({ cls := "PumpCrossingModel", name := "cost", desc := "(II)I" } : Jvm.MethodName)) ∈ lw_all := lw_g (lw_at lw_m8 200 rfl) rfl
theorem q1984 : (Jvm.Cond.methodLink "PumpCrossingLaw" (154 : Nat) ({ cls := "PumpCrossingModel", name := "late", desc := "(II)I" } : Jvm.MethodName)) ∈ lw_all := lw_g (lw_at lw_m8 208 rfl) rfl
theorem q1988 : (Jvm.Cond.methodLink "PumpCrossingLaw" (158 : Nat) ({ cls := "PumpCrossingModel", name := "feed", desc := "(IIIII)I" } : Jvm.MethodName)) ∈ lw_all := lw_g (lw_at lw_m8 212 rfl) rfl
theorem q1992 : (Jvm.Cond.methodLink "PumpCrossingLaw" (161 : Nat) ({ cls := "PumpCrossingModel", name := "rules", desc := "(II)I" } : Jvm.MethodName)) ∈ lw_all := lw_g (lw_at lw_m8 216 rfl) rfl
theorem q2094 : (Jvm.Cond.methodLink "PumpCrossingLaw" (165 : Nat) ({ cls := "PumpCrossingModel", name := "law", desc := "(I)I" } : Jvm.MethodName)) ∈ lw_all := lw_g (lw_at lw_m9 78 rfl) rfl
theorem q2106 : (Jvm.Cond.methodLink "PumpCrossingLaw" (169 : Nat) ({ cls := "PumpCrossingModel", name := "fault", desc := "(I)I" } : Jvm.MethodName)) ∈ lw_all := lw_g (lw_at lw_m9 90 rfl) rfl
theorem q2110 : (Jvm.Cond.methodLink "PumpCrossingLaw" (172 : Nat) ({ cls := "PumpCrossingModel", name := "run", desc := "(I)I" } : Jvm.MethodName)) ∈ lw_all := lw_g (lw_at lw_m9 94 rfl) rfl
theorem q2164 : (Jvm.Cond.methodLink "PumpCrossingLaw" (175 : Nat) ({ cls := "PumpCrossingModel", name := "price", desc := "(I)I" } : Jvm.MethodName)) ∈ lw_all := lw_g (lw_at lw_m9 148 rfl) rfl
theorem q2168 : (Jvm.Cond.methodLink "PumpCrossingLaw" (178 : Nat) ({ cls := "PumpCrossingModel", name := "board", desc := "(II)I" } : Jvm.MethodName)) ∈ lw_all := lw_g (lw_at lw_m9 152 rfl) rfl
theorem q2180 : (Jvm.Cond.methodLink "PumpCrossingLaw" (181 : Nat) ({ cls := "PumpCrossingModel", name := "would", desc := "(I)I" } : Jvm.MethodName)) ∈ lw_all := lw_g (lw_at lw_m9 164 rfl) rfl
theorem q2184 : (Jvm.Cond.methodLink "PumpCrossingLaw" (184 : Nat) ({ cls := "PumpCrossingModel", name := "of", desc := "(II)J" } : Jvm.MethodName)) ∈ lw_all := lw_g (lw_at lw_m9 168 rfl) rfl
theorem q2189 : (Jvm.Cond.methodLink "PumpCrossingLaw" (187 : Nat) ({ cls := "PumpCrossingModel", name := "fills", desc := "(I)I" } : Jvm.MethodName)) ∈ lw_all := lw_g (lw_at lw_m9 173 rfl) rfl
theorem q2193 : (Jvm.Cond.methodLink "PumpCrossingLaw" (191 : Nat) ({ cls := "PumpCrossingModel", name := "round", desc := "()I" } : Jvm.MethodName)) ∈ lw_all := lw_g (lw_at lw_m9 177 rfl) rfl
theorem q2201 : (Jvm.Cond.methodLink "PumpCrossingLaw" (195 : Nat) ({ cls := "PumpCrossingModel", name := "leads", desc := "(IZ)I" } : Jvm.MethodName)) ∈ lw_all := lw_g (lw_at lw_m9 185 rfl) rfl
theorem q2217 : (Jvm.Cond.methodLink "PumpCrossingLaw" (204 : Nat) ({ cls := "PumpCrossingModel", name := "upper", desc := "()J" } : Jvm.MethodName)) ∈ lw_all := lw_g (lw_at lw_m9 201 rfl) rfl
theorem q2221 : (Jvm.Cond.methodLink "PumpCrossingLaw" (208 : Nat) ({ cls := "PumpCrossingModel", name := "lower", desc := "()J" } : Jvm.MethodName)) ∈ lw_all := lw_g (lw_at lw_m9 205 rfl) rfl
theorem q2225 : (Jvm.Cond.methodLink "PumpCrossingLaw" (199 : Nat) ({ cls := "PumpCrossingModel", name := "passed", desc := "(IIZ)Z" } : Jvm.MethodName)) ∈ lw_all := lw_g (lw_at lw_m9 209 rfl) rfl
theorem q2235 : (Jvm.Cond.methodLink "PumpCrossingLaw" (211 : Nat) ({ cls := "PumpCrossingModel", name := "level", desc := "(I)I" } : Jvm.MethodName)) ∈ lw_all := lw_g (lw_at lw_m9 219 rfl) rfl
theorem q2239 : (Jvm.Cond.methodLink "PumpCrossingLaw" (215 : Nat) ({ cls := "PumpCrossingModel", name := "gain", desc := "(IIIIZ)I" } : Jvm.MethodName)) ∈ lw_all := lw_g (lw_at lw_m9 223 rfl) rfl
theorem q2263 : (Jvm.Cond.methodLink "PumpCrossingLaw" (218 : Nat) ({ cls := "PumpCrossingModel", name := "reply", desc := "(III)I" } : Jvm.MethodName)) ∈ lw_all := lw_g (lw_at lw_m10 7 rfl) rfl
theorem q2267 : (Jvm.Cond.methodLink "PumpCrossingLaw" (221 : Nat) ({ cls := "PumpCrossingModel", name := "even", desc := "(III)I" } : Jvm.MethodName)) ∈ lw_all := lw_g (lw_at lw_m10 11 rfl) rfl
theorem q2279 : (Jvm.Cond.methodLink "PumpCrossingLaw" (224 : Nat) ({ cls := "PumpCrossingModel", name := "joint", desc := "(II)I" } : Jvm.MethodName)) ∈ lw_all := lw_g (lw_at lw_m10 23 rfl) rfl
theorem q2287 : (Jvm.Cond.methodLink "PumpCrossingLaw" (228 : Nat) ({ cls := "PumpCrossingModel", name := "turn", desc := "(IIIII)I" } : Jvm.MethodName)) ∈ lw_all := lw_g (lw_at lw_m10 31 rfl) rfl
theorem q2300 : (Jvm.Cond.methodLink "PumpCrossingLaw" (231 : Nat) ({ cls := "PumpCrossingModel", name := "gains", desc := "(IIIIZ)J" } : Jvm.MethodName)) ∈ lw_all := lw_g (lw_at lw_m10 44 rfl) rfl
theorem q2304 : (Jvm.Cond.methodLink "PumpCrossingLaw" (234 : Nat) ({ cls := "PumpCrossingModel", name := "learn", desc := "(IIII)I" } : Jvm.MethodName)) ∈ lw_all := lw_g (lw_at lw_m10 48 rfl) rfl
theorem q2333 : (Jvm.Cond.methodLink "PumpCrossingLaw" (237 : Nat) ({ cls := "PumpCrossingModel", name := "above", desc := "(IIII)I" } : Jvm.MethodName)) ∈ lw_all := lw_g (lw_at lw_m10 77 rfl) rfl
theorem q2337 : (Jvm.Cond.methodLink "PumpCrossingLaw" (240 : Nat) ({ cls := "PumpCrossingModel", name := "punish", desc := "(IIIII)I" } : Jvm.MethodName)) ∈ lw_all := lw_g (lw_at lw_m10 81 rfl) rfl
theorem q2341 : (Jvm.Cond.methodLink "PumpCrossingLaw" (243 : Nat) ({ cls := "PumpCrossingModel", name := "story", desc := "(II)Z" } : Jvm.MethodName)) ∈ lw_all := lw_g (lw_at lw_m10 85 rfl) rfl
theorem q2349 : (Jvm.Cond.methodLink "PumpCrossingLaw" (246 : Nat) ({ cls := "PumpCrossingModel", name := "rise", desc := "(III)I" } : Jvm.MethodName)) ∈ lw_all := lw_g (lw_at lw_m10 93 rfl) rfl
theorem q2356 : (Jvm.Cond.methodLink "PumpCrossingLaw" (250 : Nat) ({ cls := "PumpCrossingModel", name := "odds", desc := "()V" } : Jvm.MethodName)) ∈ lw_all := lw_g (lw_at lw_m10 100 rfl) rfl
theorem q2360 : (Jvm.Cond.methodLink "PumpCrossingLaw" (253 : Nat) ({ cls := "PumpCrossingModel", name := "fill", desc := "(IIII)I" } : Jvm.MethodName)) ∈ lw_all := lw_g (lw_at lw_m10 104 rfl) rfl
theorem q2369 : (Jvm.Cond.methodLink "PumpCrossingLaw" (256 : Nat) ({ cls := "PumpCrossingModel", name := "told", desc := "(IIII)I" } : Jvm.MethodName)) ∈ lw_all := lw_g (lw_at lw_m10 113 rfl) rfl
theorem q2373 : (Jvm.Cond.methodLink "PumpCrossingLaw" (259 : Nat) ({ cls := "PumpCrossingModel", name := "fit", desc := "(I)I" } : Jvm.MethodName)) ∈ lw_all := lw_g (lw_at lw_m10 117 rfl) rfl
theorem q2377 : (Jvm.Cond.methodLink "PumpCrossingLaw" (263 : Nat) ({ cls := "PumpCrossingModel", name := "tray", desc := "(III)V" } : Jvm.MethodName)) ∈ lw_all := lw_g (lw_at lw_m10 121 rfl) rfl
theorem q2382 : (Jvm.Cond.methodLink "PumpCrossingLaw" (269 : Nat) ({ cls := "PumpCrossingModel", name := "write", desc := "(IIJ)J" } : Jvm.MethodName)) ∈ lw_all := lw_g (lw_at lw_m10 126 rfl) rfl
theorem q2386 : (Jvm.Cond.methodLink "PumpCrossingLaw" (273 : Nat) ({ cls := "PumpCrossingModel", name := "image", desc := "(I)V" } : Jvm.MethodName)) ∈ lw_all := lw_g (lw_at lw_m10 130 rfl) rfl
theorem q2390 : (Jvm.Cond.methodLink "PumpCrossingLaw" (276 : Nat) ({ cls := "PumpCrossingModel", name := "restore", desc := "(I)V" } : Jvm.MethodName)) ∈ lw_all := lw_g (lw_at lw_m10 134 rfl) rfl
theorem q2394 : (Jvm.Cond.methodLink "PumpCrossingLaw" (281 : Nat) ({ cls := "PumpCrossingModel", name := "count", desc := "(I)J" } : Jvm.MethodName)) ∈ lw_all := lw_g (lw_at lw_m10 138 rfl) rfl
theorem q2399 : (Jvm.Cond.constantLong "PumpCrossingLaw" (264 : Nat) (4294967295 : Int64)) ∈ lw_all := lw_g (lw_at lw_m10 143 rfl) rfl
