/-! BenchBrokerLaw -/
set_option maxRecDepth 100000
def RX0 : String := "BenchBrokerLaw"
abbrev cX0_addBench : ByteArray := method_3_code
def yX0_addBench : MethodName := ⟨RX0, "addBench", "(LBenchBroker;III[J)I"⟩
def dkwX0_addBench_1 : List UInt8 := [58, 5, 6, 172, 3, 172]
abbrev dktX0_addBench_1 : List UInt8 := dkwX0_addBench_1 ++ []
def dkwX0_addBench_0 : List UInt8 := [25, 4, 3, 42, 27, 28, 29, 182, 0, 7, 133, 80, 167, 0, 15, 58, 5, 4, 172, 58, 5, 5, 172]
abbrev dktX0_addBench_0 : List UInt8 := dkwX0_addBench_0 ++ dktX0_addBench_1
theorem dksX0_addBench_0 : cX0_addBench.data.toList.drop 0 = dktX0_addBench_0 := by decide +kernel
theorem dksX0_addBench_1 : cX0_addBench.data.toList.drop 23 = dktX0_addBench_1 := dk_seg dksX0_addBench_0 23 rfl rfl
theorem dX0_addBench_0 : decode cX0_addBench 0 = .ok (.aload 4, 2) := dk_25 4 (dk_at dksX0_addBench_0 0 rfl rfl)
theorem dX0_addBench_2 : decode cX0_addBench 2 = .ok (.iconst 0, 1) := dk_3 (dk_at dksX0_addBench_0 2 rfl rfl)
theorem dX0_addBench_3 : decode cX0_addBench 3 = .ok (.aload_n 0, 1) := dk_42 (dk_at dksX0_addBench_0 3 rfl rfl)
theorem dX0_addBench_4 : decode cX0_addBench 4 = .ok (.iload_n 1, 1) := dk_27 (dk_at dksX0_addBench_0 4 rfl rfl)
theorem dX0_addBench_5 : decode cX0_addBench 5 = .ok (.iload_n 2, 1) := dk_28 (dk_at dksX0_addBench_0 5 rfl rfl)
theorem dX0_addBench_6 : decode cX0_addBench 6 = .ok (.iload_n 3, 1) := dk_29 (dk_at dksX0_addBench_0 6 rfl rfl)
theorem dX0_addBench_7 : decode cX0_addBench 7 = .ok (.invokevirtual 7, 3) := dk_182 0 7 (dk_at dksX0_addBench_0 7 rfl rfl)
theorem dX0_addBench_10 : decode cX0_addBench 10 = .ok (.i2l, 1) := dk_133 (dk_at dksX0_addBench_0 10 rfl rfl)
theorem dX0_addBench_11 : decode cX0_addBench 11 = .ok (.lastore, 1) := dk_80 (dk_at dksX0_addBench_0 11 rfl rfl)
theorem dX0_addBench_12 : decode cX0_addBench 12 = .ok (.goto 15, 3) := dk_167 0 15 (dk_at dksX0_addBench_0 12 rfl rfl)
theorem dX0_addBench_15 : decode cX0_addBench 15 = .ok (.astore 5, 2) := dk_58 5 (dk_at dksX0_addBench_0 15 rfl rfl)
theorem dX0_addBench_17 : decode cX0_addBench 17 = .ok (.iconst 1, 1) := dk_4 (dk_at dksX0_addBench_0 17 rfl rfl)
theorem dX0_addBench_18 : decode cX0_addBench 18 = .ok (.ireturn, 1) := dk_172 (dk_at dksX0_addBench_0 18 rfl rfl)
theorem dX0_addBench_19 : decode cX0_addBench 19 = .ok (.astore 5, 2) := dk_58 5 (dk_at dksX0_addBench_0 19 rfl rfl)
theorem dX0_addBench_21 : decode cX0_addBench 21 = .ok (.iconst 2, 1) := dk_5 (dk_at dksX0_addBench_0 21 rfl rfl)
theorem dX0_addBench_22 : decode cX0_addBench 22 = .ok (.ireturn, 1) := dk_172 (dk_at dksX0_addBench_0 22 rfl rfl)
theorem dX0_addBench_23 : decode cX0_addBench 23 = .ok (.astore 5, 2) := dk_58 5 (dk_at dksX0_addBench_1 0 rfl rfl)
theorem dX0_addBench_25 : decode cX0_addBench 25 = .ok (.iconst 3, 1) := dk_6 (dk_at dksX0_addBench_1 2 rfl rfl)
theorem dX0_addBench_26 : decode cX0_addBench 26 = .ok (.ireturn, 1) := dk_172 (dk_at dksX0_addBench_1 3 rfl rfl)
theorem dX0_addBench_27 : decode cX0_addBench 27 = .ok (.iconst 0, 1) := dk_3 (dk_at dksX0_addBench_1 4 rfl rfl)
theorem dX0_addBench_28 : decode cX0_addBench 28 = .ok (.ireturn, 1) := dk_172 (dk_at dksX0_addBench_1 5 rfl rfl)
abbrev cX0_setRent : ByteArray := method_4_code
def yX0_setRent : MethodName := ⟨RX0, "setRent", "(LBenchBroker;II[J)I"⟩
def dkwX0_setRent_0 : List UInt8 := [45, 3, 42, 27, 28, 182, 0, 19, 133, 80, 167, 0, 11, 58, 4, 4, 172, 58, 4, 5, 172, 3, 172]
abbrev dktX0_setRent_0 : List UInt8 := dkwX0_setRent_0 ++ []
theorem dksX0_setRent_0 : cX0_setRent.data.toList.drop 0 = dktX0_setRent_0 := by decide +kernel
theorem dX0_setRent_0 : decode cX0_setRent 0 = .ok (.aload_n 3, 1) := dk_45 (dk_at dksX0_setRent_0 0 rfl rfl)
theorem dX0_setRent_1 : decode cX0_setRent 1 = .ok (.iconst 0, 1) := dk_3 (dk_at dksX0_setRent_0 1 rfl rfl)
theorem dX0_setRent_2 : decode cX0_setRent 2 = .ok (.aload_n 0, 1) := dk_42 (dk_at dksX0_setRent_0 2 rfl rfl)
theorem dX0_setRent_3 : decode cX0_setRent 3 = .ok (.iload_n 1, 1) := dk_27 (dk_at dksX0_setRent_0 3 rfl rfl)
theorem dX0_setRent_4 : decode cX0_setRent 4 = .ok (.iload_n 2, 1) := dk_28 (dk_at dksX0_setRent_0 4 rfl rfl)
theorem dX0_setRent_5 : decode cX0_setRent 5 = .ok (.invokevirtual 19, 3) := dk_182 0 19 (dk_at dksX0_setRent_0 5 rfl rfl)
theorem dX0_setRent_8 : decode cX0_setRent 8 = .ok (.i2l, 1) := dk_133 (dk_at dksX0_setRent_0 8 rfl rfl)
theorem dX0_setRent_9 : decode cX0_setRent 9 = .ok (.lastore, 1) := dk_80 (dk_at dksX0_setRent_0 9 rfl rfl)
theorem dX0_setRent_10 : decode cX0_setRent 10 = .ok (.goto 11, 3) := dk_167 0 11 (dk_at dksX0_setRent_0 10 rfl rfl)
theorem dX0_setRent_13 : decode cX0_setRent 13 = .ok (.astore 4, 2) := dk_58 4 (dk_at dksX0_setRent_0 13 rfl rfl)
theorem dX0_setRent_15 : decode cX0_setRent 15 = .ok (.iconst 1, 1) := dk_4 (dk_at dksX0_setRent_0 15 rfl rfl)
theorem dX0_setRent_16 : decode cX0_setRent 16 = .ok (.ireturn, 1) := dk_172 (dk_at dksX0_setRent_0 16 rfl rfl)
theorem dX0_setRent_17 : decode cX0_setRent 17 = .ok (.astore 4, 2) := dk_58 4 (dk_at dksX0_setRent_0 17 rfl rfl)
theorem dX0_setRent_19 : decode cX0_setRent 19 = .ok (.iconst 2, 1) := dk_5 (dk_at dksX0_setRent_0 19 rfl rfl)
theorem dX0_setRent_20 : decode cX0_setRent 20 = .ok (.ireturn, 1) := dk_172 (dk_at dksX0_setRent_0 20 rfl rfl)
theorem dX0_setRent_21 : decode cX0_setRent 21 = .ok (.iconst 0, 1) := dk_3 (dk_at dksX0_setRent_0 21 rfl rfl)
theorem dX0_setRent_22 : decode cX0_setRent 22 = .ok (.ireturn, 1) := dk_172 (dk_at dksX0_setRent_0 22 rfl rfl)
abbrev cX0_addFountain : ByteArray := method_5_code
def yX0_addFountain : MethodName := ⟨RX0, "addFountain", "(LBenchBroker;III[J)I"⟩
def dkwX0_addFountain_1 : List UInt8 := [58, 5, 6, 172, 3, 172]
abbrev dktX0_addFountain_1 : List UInt8 := dkwX0_addFountain_1 ++ []
def dkwX0_addFountain_0 : List UInt8 := [25, 4, 3, 42, 27, 28, 29, 182, 0, 23, 133, 80, 167, 0, 15, 58, 5, 4, 172, 58, 5, 5, 172]
abbrev dktX0_addFountain_0 : List UInt8 := dkwX0_addFountain_0 ++ dktX0_addFountain_1
theorem dksX0_addFountain_0 : cX0_addFountain.data.toList.drop 0 = dktX0_addFountain_0 := by decide +kernel
theorem dksX0_addFountain_1 : cX0_addFountain.data.toList.drop 23 = dktX0_addFountain_1 := dk_seg dksX0_addFountain_0 23 rfl rfl
theorem dX0_addFountain_0 : decode cX0_addFountain 0 = .ok (.aload 4, 2) := dk_25 4 (dk_at dksX0_addFountain_0 0 rfl rfl)
theorem dX0_addFountain_2 : decode cX0_addFountain 2 = .ok (.iconst 0, 1) := dk_3 (dk_at dksX0_addFountain_0 2 rfl rfl)
theorem dX0_addFountain_3 : decode cX0_addFountain 3 = .ok (.aload_n 0, 1) := dk_42 (dk_at dksX0_addFountain_0 3 rfl rfl)
theorem dX0_addFountain_4 : decode cX0_addFountain 4 = .ok (.iload_n 1, 1) := dk_27 (dk_at dksX0_addFountain_0 4 rfl rfl)
theorem dX0_addFountain_5 : decode cX0_addFountain 5 = .ok (.iload_n 2, 1) := dk_28 (dk_at dksX0_addFountain_0 5 rfl rfl)
theorem dX0_addFountain_6 : decode cX0_addFountain 6 = .ok (.iload_n 3, 1) := dk_29 (dk_at dksX0_addFountain_0 6 rfl rfl)
theorem dX0_addFountain_7 : decode cX0_addFountain 7 = .ok (.invokevirtual 23, 3) := dk_182 0 23 (dk_at dksX0_addFountain_0 7 rfl rfl)
theorem dX0_addFountain_10 : decode cX0_addFountain 10 = .ok (.i2l, 1) := dk_133 (dk_at dksX0_addFountain_0 10 rfl rfl)
theorem dX0_addFountain_11 : decode cX0_addFountain 11 = .ok (.lastore, 1) := dk_80 (dk_at dksX0_addFountain_0 11 rfl rfl)
theorem dX0_addFountain_12 : decode cX0_addFountain 12 = .ok (.goto 15, 3) := dk_167 0 15 (dk_at dksX0_addFountain_0 12 rfl rfl)
theorem dX0_addFountain_15 : decode cX0_addFountain 15 = .ok (.astore 5, 2) := dk_58 5 (dk_at dksX0_addFountain_0 15 rfl rfl)
theorem dX0_addFountain_17 : decode cX0_addFountain 17 = .ok (.iconst 1, 1) := dk_4 (dk_at dksX0_addFountain_0 17 rfl rfl)
theorem dX0_addFountain_18 : decode cX0_addFountain 18 = .ok (.ireturn, 1) := dk_172 (dk_at dksX0_addFountain_0 18 rfl rfl)
theorem dX0_addFountain_19 : decode cX0_addFountain 19 = .ok (.astore 5, 2) := dk_58 5 (dk_at dksX0_addFountain_0 19 rfl rfl)
theorem dX0_addFountain_21 : decode cX0_addFountain 21 = .ok (.iconst 2, 1) := dk_5 (dk_at dksX0_addFountain_0 21 rfl rfl)
theorem dX0_addFountain_22 : decode cX0_addFountain 22 = .ok (.ireturn, 1) := dk_172 (dk_at dksX0_addFountain_0 22 rfl rfl)
theorem dX0_addFountain_23 : decode cX0_addFountain 23 = .ok (.astore 5, 2) := dk_58 5 (dk_at dksX0_addFountain_1 0 rfl rfl)
theorem dX0_addFountain_25 : decode cX0_addFountain 25 = .ok (.iconst 3, 1) := dk_6 (dk_at dksX0_addFountain_1 2 rfl rfl)
theorem dX0_addFountain_26 : decode cX0_addFountain 26 = .ok (.ireturn, 1) := dk_172 (dk_at dksX0_addFountain_1 3 rfl rfl)
theorem dX0_addFountain_27 : decode cX0_addFountain 27 = .ok (.iconst 0, 1) := dk_3 (dk_at dksX0_addFountain_1 4 rfl rfl)
theorem dX0_addFountain_28 : decode cX0_addFountain 28 = .ok (.ireturn, 1) := dk_172 (dk_at dksX0_addFountain_1 5 rfl rfl)
abbrev cX0_setLoudness : ByteArray := method_6_code
def yX0_setLoudness : MethodName := ⟨RX0, "setLoudness", "(LBenchBroker;II[J)I"⟩
def dkwX0_setLoudness_0 : List UInt8 := [45, 3, 42, 27, 28, 182, 0, 26, 133, 80, 167, 0, 11, 58, 4, 4, 172, 58, 4, 5, 172, 3, 172]
abbrev dktX0_setLoudness_0 : List UInt8 := dkwX0_setLoudness_0 ++ []
theorem dksX0_setLoudness_0 : cX0_setLoudness.data.toList.drop 0 = dktX0_setLoudness_0 := by decide +kernel
theorem dX0_setLoudness_0 : decode cX0_setLoudness 0 = .ok (.aload_n 3, 1) := dk_45 (dk_at dksX0_setLoudness_0 0 rfl rfl)
theorem dX0_setLoudness_1 : decode cX0_setLoudness 1 = .ok (.iconst 0, 1) := dk_3 (dk_at dksX0_setLoudness_0 1 rfl rfl)
theorem dX0_setLoudness_2 : decode cX0_setLoudness 2 = .ok (.aload_n 0, 1) := dk_42 (dk_at dksX0_setLoudness_0 2 rfl rfl)
theorem dX0_setLoudness_3 : decode cX0_setLoudness 3 = .ok (.iload_n 1, 1) := dk_27 (dk_at dksX0_setLoudness_0 3 rfl rfl)
theorem dX0_setLoudness_4 : decode cX0_setLoudness 4 = .ok (.iload_n 2, 1) := dk_28 (dk_at dksX0_setLoudness_0 4 rfl rfl)
theorem dX0_setLoudness_5 : decode cX0_setLoudness 5 = .ok (.invokevirtual 26, 3) := dk_182 0 26 (dk_at dksX0_setLoudness_0 5 rfl rfl)
theorem dX0_setLoudness_8 : decode cX0_setLoudness 8 = .ok (.i2l, 1) := dk_133 (dk_at dksX0_setLoudness_0 8 rfl rfl)
theorem dX0_setLoudness_9 : decode cX0_setLoudness 9 = .ok (.lastore, 1) := dk_80 (dk_at dksX0_setLoudness_0 9 rfl rfl)
theorem dX0_setLoudness_10 : decode cX0_setLoudness 10 = .ok (.goto 11, 3) := dk_167 0 11 (dk_at dksX0_setLoudness_0 10 rfl rfl)
theorem dX0_setLoudness_13 : decode cX0_setLoudness 13 = .ok (.astore 4, 2) := dk_58 4 (dk_at dksX0_setLoudness_0 13 rfl rfl)
theorem dX0_setLoudness_15 : decode cX0_setLoudness 15 = .ok (.iconst 1, 1) := dk_4 (dk_at dksX0_setLoudness_0 15 rfl rfl)
theorem dX0_setLoudness_16 : decode cX0_setLoudness 16 = .ok (.ireturn, 1) := dk_172 (dk_at dksX0_setLoudness_0 16 rfl rfl)
theorem dX0_setLoudness_17 : decode cX0_setLoudness 17 = .ok (.astore 4, 2) := dk_58 4 (dk_at dksX0_setLoudness_0 17 rfl rfl)
theorem dX0_setLoudness_19 : decode cX0_setLoudness 19 = .ok (.iconst 2, 1) := dk_5 (dk_at dksX0_setLoudness_0 19 rfl rfl)
theorem dX0_setLoudness_20 : decode cX0_setLoudness 20 = .ok (.ireturn, 1) := dk_172 (dk_at dksX0_setLoudness_0 20 rfl rfl)
theorem dX0_setLoudness_21 : decode cX0_setLoudness 21 = .ok (.iconst 0, 1) := dk_3 (dk_at dksX0_setLoudness_0 21 rfl rfl)
theorem dX0_setLoudness_22 : decode cX0_setLoudness 22 = .ok (.ireturn, 1) := dk_172 (dk_at dksX0_setLoudness_0 22 rfl rfl)
abbrev cX0_switchFountain : ByteArray := method_7_code
def yX0_switchFountain : MethodName := ⟨RX0, "switchFountain", "(LBenchBroker;I[J)I"⟩
def dkwX0_switchFountain_0 : List UInt8 := [44, 3, 42, 27, 182, 0, 29, 153, 0, 7, 10, 167, 0, 4, 9, 80, 167, 0, 6, 78, 4, 172, 3, 172]
abbrev dktX0_switchFountain_0 : List UInt8 := dkwX0_switchFountain_0 ++ []
theorem dksX0_switchFountain_0 : cX0_switchFountain.data.toList.drop 0 = dktX0_switchFountain_0 := by decide +kernel
theorem dX0_switchFountain_0 : decode cX0_switchFountain 0 = .ok (.aload_n 2, 1) := dk_44 (dk_at dksX0_switchFountain_0 0 rfl rfl)
theorem dX0_switchFountain_1 : decode cX0_switchFountain 1 = .ok (.iconst 0, 1) := dk_3 (dk_at dksX0_switchFountain_0 1 rfl rfl)
theorem dX0_switchFountain_2 : decode cX0_switchFountain 2 = .ok (.aload_n 0, 1) := dk_42 (dk_at dksX0_switchFountain_0 2 rfl rfl)
theorem dX0_switchFountain_3 : decode cX0_switchFountain 3 = .ok (.iload_n 1, 1) := dk_27 (dk_at dksX0_switchFountain_0 3 rfl rfl)
theorem dX0_switchFountain_4 : decode cX0_switchFountain 4 = .ok (.invokevirtual 29, 3) := dk_182 0 29 (dk_at dksX0_switchFountain_0 4 rfl rfl)
theorem dX0_switchFountain_7 : decode cX0_switchFountain 7 = .ok (.ifCond .eq 7, 3) := dk_153 0 7 (dk_at dksX0_switchFountain_0 7 rfl rfl)
theorem dX0_switchFountain_10 : decode cX0_switchFountain 10 = .ok (.lconst 1, 1) := dk_10 (dk_at dksX0_switchFountain_0 10 rfl rfl)
theorem dX0_switchFountain_11 : decode cX0_switchFountain 11 = .ok (.goto 4, 3) := dk_167 0 4 (dk_at dksX0_switchFountain_0 11 rfl rfl)
theorem dX0_switchFountain_14 : decode cX0_switchFountain 14 = .ok (.lconst 0, 1) := dk_9 (dk_at dksX0_switchFountain_0 14 rfl rfl)
theorem dX0_switchFountain_15 : decode cX0_switchFountain 15 = .ok (.lastore, 1) := dk_80 (dk_at dksX0_switchFountain_0 15 rfl rfl)
theorem dX0_switchFountain_16 : decode cX0_switchFountain 16 = .ok (.goto 6, 3) := dk_167 0 6 (dk_at dksX0_switchFountain_0 16 rfl rfl)
theorem dX0_switchFountain_19 : decode cX0_switchFountain 19 = .ok (.astore_n 3, 1) := dk_78 (dk_at dksX0_switchFountain_0 19 rfl rfl)
theorem dX0_switchFountain_20 : decode cX0_switchFountain 20 = .ok (.iconst 1, 1) := dk_4 (dk_at dksX0_switchFountain_0 20 rfl rfl)
theorem dX0_switchFountain_21 : decode cX0_switchFountain 21 = .ok (.ireturn, 1) := dk_172 (dk_at dksX0_switchFountain_0 21 rfl rfl)
theorem dX0_switchFountain_22 : decode cX0_switchFountain 22 = .ok (.iconst 0, 1) := dk_3 (dk_at dksX0_switchFountain_0 22 rfl rfl)
theorem dX0_switchFountain_23 : decode cX0_switchFountain 23 = .ok (.ireturn, 1) := dk_172 (dk_at dksX0_switchFountain_0 23 rfl rfl)
abbrev cX0_setNoiseLimit : ByteArray := method_8_code
def yX0_setNoiseLimit : MethodName := ⟨RX0, "setNoiseLimit", "(LBenchBroker;I[J)I"⟩
def dkwX0_setNoiseLimit_0 : List UInt8 := [44, 3, 42, 27, 182, 0, 33, 133, 80, 167, 0, 6, 78, 4, 172, 3, 172]
abbrev dktX0_setNoiseLimit_0 : List UInt8 := dkwX0_setNoiseLimit_0 ++ []
theorem dksX0_setNoiseLimit_0 : cX0_setNoiseLimit.data.toList.drop 0 = dktX0_setNoiseLimit_0 := by decide +kernel
theorem dX0_setNoiseLimit_0 : decode cX0_setNoiseLimit 0 = .ok (.aload_n 2, 1) := dk_44 (dk_at dksX0_setNoiseLimit_0 0 rfl rfl)
theorem dX0_setNoiseLimit_1 : decode cX0_setNoiseLimit 1 = .ok (.iconst 0, 1) := dk_3 (dk_at dksX0_setNoiseLimit_0 1 rfl rfl)
theorem dX0_setNoiseLimit_2 : decode cX0_setNoiseLimit 2 = .ok (.aload_n 0, 1) := dk_42 (dk_at dksX0_setNoiseLimit_0 2 rfl rfl)
theorem dX0_setNoiseLimit_3 : decode cX0_setNoiseLimit 3 = .ok (.iload_n 1, 1) := dk_27 (dk_at dksX0_setNoiseLimit_0 3 rfl rfl)
theorem dX0_setNoiseLimit_4 : decode cX0_setNoiseLimit 4 = .ok (.invokevirtual 33, 3) := dk_182 0 33 (dk_at dksX0_setNoiseLimit_0 4 rfl rfl)
theorem dX0_setNoiseLimit_7 : decode cX0_setNoiseLimit 7 = .ok (.i2l, 1) := dk_133 (dk_at dksX0_setNoiseLimit_0 7 rfl rfl)
theorem dX0_setNoiseLimit_8 : decode cX0_setNoiseLimit 8 = .ok (.lastore, 1) := dk_80 (dk_at dksX0_setNoiseLimit_0 8 rfl rfl)
theorem dX0_setNoiseLimit_9 : decode cX0_setNoiseLimit 9 = .ok (.goto 6, 3) := dk_167 0 6 (dk_at dksX0_setNoiseLimit_0 9 rfl rfl)
theorem dX0_setNoiseLimit_12 : decode cX0_setNoiseLimit 12 = .ok (.astore_n 3, 1) := dk_78 (dk_at dksX0_setNoiseLimit_0 12 rfl rfl)
theorem dX0_setNoiseLimit_13 : decode cX0_setNoiseLimit 13 = .ok (.iconst 1, 1) := dk_4 (dk_at dksX0_setNoiseLimit_0 13 rfl rfl)
theorem dX0_setNoiseLimit_14 : decode cX0_setNoiseLimit 14 = .ok (.ireturn, 1) := dk_172 (dk_at dksX0_setNoiseLimit_0 14 rfl rfl)
theorem dX0_setNoiseLimit_15 : decode cX0_setNoiseLimit 15 = .ok (.iconst 0, 1) := dk_3 (dk_at dksX0_setNoiseLimit_0 15 rfl rfl)
theorem dX0_setNoiseLimit_16 : decode cX0_setNoiseLimit 16 = .ok (.ireturn, 1) := dk_172 (dk_at dksX0_setNoiseLimit_0 16 rfl rfl)
abbrev cX0_rowOf : ByteArray := method_9_code
def yX0_rowOf : MethodName := ⟨RX0, "rowOf", "(LBenchBroker;I[J)I"⟩
def dkwX0_rowOf_0 : List UInt8 := [44, 3, 42, 27, 182, 0, 37, 133, 80, 167, 0, 6, 78, 4, 172, 3, 172]
abbrev dktX0_rowOf_0 : List UInt8 := dkwX0_rowOf_0 ++ []
theorem dksX0_rowOf_0 : cX0_rowOf.data.toList.drop 0 = dktX0_rowOf_0 := by decide +kernel
theorem dX0_rowOf_0 : decode cX0_rowOf 0 = .ok (.aload_n 2, 1) := dk_44 (dk_at dksX0_rowOf_0 0 rfl rfl)
theorem dX0_rowOf_1 : decode cX0_rowOf 1 = .ok (.iconst 0, 1) := dk_3 (dk_at dksX0_rowOf_0 1 rfl rfl)
theorem dX0_rowOf_2 : decode cX0_rowOf 2 = .ok (.aload_n 0, 1) := dk_42 (dk_at dksX0_rowOf_0 2 rfl rfl)
theorem dX0_rowOf_3 : decode cX0_rowOf 3 = .ok (.iload_n 1, 1) := dk_27 (dk_at dksX0_rowOf_0 3 rfl rfl)
theorem dX0_rowOf_4 : decode cX0_rowOf 4 = .ok (.invokevirtual 37, 3) := dk_182 0 37 (dk_at dksX0_rowOf_0 4 rfl rfl)
theorem dX0_rowOf_7 : decode cX0_rowOf 7 = .ok (.i2l, 1) := dk_133 (dk_at dksX0_rowOf_0 7 rfl rfl)
theorem dX0_rowOf_8 : decode cX0_rowOf 8 = .ok (.lastore, 1) := dk_80 (dk_at dksX0_rowOf_0 8 rfl rfl)
theorem dX0_rowOf_9 : decode cX0_rowOf 9 = .ok (.goto 6, 3) := dk_167 0 6 (dk_at dksX0_rowOf_0 9 rfl rfl)
theorem dX0_rowOf_12 : decode cX0_rowOf 12 = .ok (.astore_n 3, 1) := dk_78 (dk_at dksX0_rowOf_0 12 rfl rfl)
theorem dX0_rowOf_13 : decode cX0_rowOf 13 = .ok (.iconst 1, 1) := dk_4 (dk_at dksX0_rowOf_0 13 rfl rfl)
theorem dX0_rowOf_14 : decode cX0_rowOf 14 = .ok (.ireturn, 1) := dk_172 (dk_at dksX0_rowOf_0 14 rfl rfl)
theorem dX0_rowOf_15 : decode cX0_rowOf 15 = .ok (.iconst 0, 1) := dk_3 (dk_at dksX0_rowOf_0 15 rfl rfl)
theorem dX0_rowOf_16 : decode cX0_rowOf 16 = .ok (.ireturn, 1) := dk_172 (dk_at dksX0_rowOf_0 16 rfl rfl)
abbrev cX0_columnOf : ByteArray := method_10_code
def yX0_columnOf : MethodName := ⟨RX0, "columnOf", "(LBenchBroker;I[J)I"⟩
def dkwX0_columnOf_0 : List UInt8 := [44, 3, 42, 27, 182, 0, 40, 133, 80, 167, 0, 6, 78, 4, 172, 3, 172]
abbrev dktX0_columnOf_0 : List UInt8 := dkwX0_columnOf_0 ++ []
theorem dksX0_columnOf_0 : cX0_columnOf.data.toList.drop 0 = dktX0_columnOf_0 := by decide +kernel
theorem dX0_columnOf_0 : decode cX0_columnOf 0 = .ok (.aload_n 2, 1) := dk_44 (dk_at dksX0_columnOf_0 0 rfl rfl)
theorem dX0_columnOf_1 : decode cX0_columnOf 1 = .ok (.iconst 0, 1) := dk_3 (dk_at dksX0_columnOf_0 1 rfl rfl)
theorem dX0_columnOf_2 : decode cX0_columnOf 2 = .ok (.aload_n 0, 1) := dk_42 (dk_at dksX0_columnOf_0 2 rfl rfl)
theorem dX0_columnOf_3 : decode cX0_columnOf 3 = .ok (.iload_n 1, 1) := dk_27 (dk_at dksX0_columnOf_0 3 rfl rfl)
theorem dX0_columnOf_4 : decode cX0_columnOf 4 = .ok (.invokevirtual 40, 3) := dk_182 0 40 (dk_at dksX0_columnOf_0 4 rfl rfl)
theorem dX0_columnOf_7 : decode cX0_columnOf 7 = .ok (.i2l, 1) := dk_133 (dk_at dksX0_columnOf_0 7 rfl rfl)
theorem dX0_columnOf_8 : decode cX0_columnOf 8 = .ok (.lastore, 1) := dk_80 (dk_at dksX0_columnOf_0 8 rfl rfl)
theorem dX0_columnOf_9 : decode cX0_columnOf 9 = .ok (.goto 6, 3) := dk_167 0 6 (dk_at dksX0_columnOf_0 9 rfl rfl)
theorem dX0_columnOf_12 : decode cX0_columnOf 12 = .ok (.astore_n 3, 1) := dk_78 (dk_at dksX0_columnOf_0 12 rfl rfl)
theorem dX0_columnOf_13 : decode cX0_columnOf 13 = .ok (.iconst 1, 1) := dk_4 (dk_at dksX0_columnOf_0 13 rfl rfl)
theorem dX0_columnOf_14 : decode cX0_columnOf 14 = .ok (.ireturn, 1) := dk_172 (dk_at dksX0_columnOf_0 14 rfl rfl)
theorem dX0_columnOf_15 : decode cX0_columnOf 15 = .ok (.iconst 0, 1) := dk_3 (dk_at dksX0_columnOf_0 15 rfl rfl)
theorem dX0_columnOf_16 : decode cX0_columnOf 16 = .ok (.ireturn, 1) := dk_172 (dk_at dksX0_columnOf_0 16 rfl rfl)
abbrev cX0_baseRent : ByteArray := method_11_code
def yX0_baseRent : MethodName := ⟨RX0, "baseRent", "(LBenchBroker;I[J)I"⟩
def dkwX0_baseRent_0 : List UInt8 := [44, 3, 42, 27, 182, 0, 43, 133, 80, 167, 0, 6, 78, 4, 172, 3, 172]
abbrev dktX0_baseRent_0 : List UInt8 := dkwX0_baseRent_0 ++ []
theorem dksX0_baseRent_0 : cX0_baseRent.data.toList.drop 0 = dktX0_baseRent_0 := by decide +kernel
theorem dX0_baseRent_0 : decode cX0_baseRent 0 = .ok (.aload_n 2, 1) := dk_44 (dk_at dksX0_baseRent_0 0 rfl rfl)
theorem dX0_baseRent_1 : decode cX0_baseRent 1 = .ok (.iconst 0, 1) := dk_3 (dk_at dksX0_baseRent_0 1 rfl rfl)
theorem dX0_baseRent_2 : decode cX0_baseRent 2 = .ok (.aload_n 0, 1) := dk_42 (dk_at dksX0_baseRent_0 2 rfl rfl)
theorem dX0_baseRent_3 : decode cX0_baseRent 3 = .ok (.iload_n 1, 1) := dk_27 (dk_at dksX0_baseRent_0 3 rfl rfl)
theorem dX0_baseRent_4 : decode cX0_baseRent 4 = .ok (.invokevirtual 43, 3) := dk_182 0 43 (dk_at dksX0_baseRent_0 4 rfl rfl)
theorem dX0_baseRent_7 : decode cX0_baseRent 7 = .ok (.i2l, 1) := dk_133 (dk_at dksX0_baseRent_0 7 rfl rfl)
theorem dX0_baseRent_8 : decode cX0_baseRent 8 = .ok (.lastore, 1) := dk_80 (dk_at dksX0_baseRent_0 8 rfl rfl)
theorem dX0_baseRent_9 : decode cX0_baseRent 9 = .ok (.goto 6, 3) := dk_167 0 6 (dk_at dksX0_baseRent_0 9 rfl rfl)
theorem dX0_baseRent_12 : decode cX0_baseRent 12 = .ok (.astore_n 3, 1) := dk_78 (dk_at dksX0_baseRent_0 12 rfl rfl)
theorem dX0_baseRent_13 : decode cX0_baseRent 13 = .ok (.iconst 1, 1) := dk_4 (dk_at dksX0_baseRent_0 13 rfl rfl)
theorem dX0_baseRent_14 : decode cX0_baseRent 14 = .ok (.ireturn, 1) := dk_172 (dk_at dksX0_baseRent_0 14 rfl rfl)
theorem dX0_baseRent_15 : decode cX0_baseRent 15 = .ok (.iconst 0, 1) := dk_3 (dk_at dksX0_baseRent_0 15 rfl rfl)
theorem dX0_baseRent_16 : decode cX0_baseRent 16 = .ok (.ireturn, 1) := dk_172 (dk_at dksX0_baseRent_0 16 rfl rfl)
abbrev cX0_rentOf : ByteArray := method_12_code
def yX0_rentOf : MethodName := ⟨RX0, "rentOf", "(LBenchBroker;I[J)I"⟩
def dkwX0_rentOf_0 : List UInt8 := [44, 3, 42, 27, 182, 0, 46, 133, 80, 167, 0, 6, 78, 4, 172, 3, 172]
abbrev dktX0_rentOf_0 : List UInt8 := dkwX0_rentOf_0 ++ []
theorem dksX0_rentOf_0 : cX0_rentOf.data.toList.drop 0 = dktX0_rentOf_0 := by decide +kernel
theorem dX0_rentOf_0 : decode cX0_rentOf 0 = .ok (.aload_n 2, 1) := dk_44 (dk_at dksX0_rentOf_0 0 rfl rfl)
theorem dX0_rentOf_1 : decode cX0_rentOf 1 = .ok (.iconst 0, 1) := dk_3 (dk_at dksX0_rentOf_0 1 rfl rfl)
theorem dX0_rentOf_2 : decode cX0_rentOf 2 = .ok (.aload_n 0, 1) := dk_42 (dk_at dksX0_rentOf_0 2 rfl rfl)
theorem dX0_rentOf_3 : decode cX0_rentOf 3 = .ok (.iload_n 1, 1) := dk_27 (dk_at dksX0_rentOf_0 3 rfl rfl)
theorem dX0_rentOf_4 : decode cX0_rentOf 4 = .ok (.invokevirtual 46, 3) := dk_182 0 46 (dk_at dksX0_rentOf_0 4 rfl rfl)
theorem dX0_rentOf_7 : decode cX0_rentOf 7 = .ok (.i2l, 1) := dk_133 (dk_at dksX0_rentOf_0 7 rfl rfl)
theorem dX0_rentOf_8 : decode cX0_rentOf 8 = .ok (.lastore, 1) := dk_80 (dk_at dksX0_rentOf_0 8 rfl rfl)
theorem dX0_rentOf_9 : decode cX0_rentOf 9 = .ok (.goto 6, 3) := dk_167 0 6 (dk_at dksX0_rentOf_0 9 rfl rfl)
theorem dX0_rentOf_12 : decode cX0_rentOf 12 = .ok (.astore_n 3, 1) := dk_78 (dk_at dksX0_rentOf_0 12 rfl rfl)
theorem dX0_rentOf_13 : decode cX0_rentOf 13 = .ok (.iconst 1, 1) := dk_4 (dk_at dksX0_rentOf_0 13 rfl rfl)
theorem dX0_rentOf_14 : decode cX0_rentOf 14 = .ok (.ireturn, 1) := dk_172 (dk_at dksX0_rentOf_0 14 rfl rfl)
theorem dX0_rentOf_15 : decode cX0_rentOf 15 = .ok (.iconst 0, 1) := dk_3 (dk_at dksX0_rentOf_0 15 rfl rfl)
theorem dX0_rentOf_16 : decode cX0_rentOf 16 = .ok (.ireturn, 1) := dk_172 (dk_at dksX0_rentOf_0 16 rfl rfl)
abbrev cX0_loudnessOf : ByteArray := method_13_code
def yX0_loudnessOf : MethodName := ⟨RX0, "loudnessOf", "(LBenchBroker;I[J)I"⟩
def dkwX0_loudnessOf_0 : List UInt8 := [44, 3, 42, 27, 182, 0, 49, 133, 80, 167, 0, 6, 78, 4, 172, 3, 172]
abbrev dktX0_loudnessOf_0 : List UInt8 := dkwX0_loudnessOf_0 ++ []
theorem dksX0_loudnessOf_0 : cX0_loudnessOf.data.toList.drop 0 = dktX0_loudnessOf_0 := by decide +kernel
theorem dX0_loudnessOf_0 : decode cX0_loudnessOf 0 = .ok (.aload_n 2, 1) := dk_44 (dk_at dksX0_loudnessOf_0 0 rfl rfl)
theorem dX0_loudnessOf_1 : decode cX0_loudnessOf 1 = .ok (.iconst 0, 1) := dk_3 (dk_at dksX0_loudnessOf_0 1 rfl rfl)
theorem dX0_loudnessOf_2 : decode cX0_loudnessOf 2 = .ok (.aload_n 0, 1) := dk_42 (dk_at dksX0_loudnessOf_0 2 rfl rfl)
theorem dX0_loudnessOf_3 : decode cX0_loudnessOf 3 = .ok (.iload_n 1, 1) := dk_27 (dk_at dksX0_loudnessOf_0 3 rfl rfl)
theorem dX0_loudnessOf_4 : decode cX0_loudnessOf 4 = .ok (.invokevirtual 49, 3) := dk_182 0 49 (dk_at dksX0_loudnessOf_0 4 rfl rfl)
theorem dX0_loudnessOf_7 : decode cX0_loudnessOf 7 = .ok (.i2l, 1) := dk_133 (dk_at dksX0_loudnessOf_0 7 rfl rfl)
theorem dX0_loudnessOf_8 : decode cX0_loudnessOf 8 = .ok (.lastore, 1) := dk_80 (dk_at dksX0_loudnessOf_0 8 rfl rfl)
theorem dX0_loudnessOf_9 : decode cX0_loudnessOf 9 = .ok (.goto 6, 3) := dk_167 0 6 (dk_at dksX0_loudnessOf_0 9 rfl rfl)
theorem dX0_loudnessOf_12 : decode cX0_loudnessOf 12 = .ok (.astore_n 3, 1) := dk_78 (dk_at dksX0_loudnessOf_0 12 rfl rfl)
theorem dX0_loudnessOf_13 : decode cX0_loudnessOf 13 = .ok (.iconst 1, 1) := dk_4 (dk_at dksX0_loudnessOf_0 13 rfl rfl)
theorem dX0_loudnessOf_14 : decode cX0_loudnessOf 14 = .ok (.ireturn, 1) := dk_172 (dk_at dksX0_loudnessOf_0 14 rfl rfl)
theorem dX0_loudnessOf_15 : decode cX0_loudnessOf 15 = .ok (.iconst 0, 1) := dk_3 (dk_at dksX0_loudnessOf_0 15 rfl rfl)
theorem dX0_loudnessOf_16 : decode cX0_loudnessOf 16 = .ok (.ireturn, 1) := dk_172 (dk_at dksX0_loudnessOf_0 16 rfl rfl)
abbrev cX0_isRunning : ByteArray := method_14_code
def yX0_isRunning : MethodName := ⟨RX0, "isRunning", "(LBenchBroker;I[J)I"⟩
def dkwX0_isRunning_0 : List UInt8 := [44, 3, 42, 27, 182, 0, 52, 153, 0, 7, 10, 167, 0, 4, 9, 80, 167, 0, 6, 78, 4, 172, 3, 172]
abbrev dktX0_isRunning_0 : List UInt8 := dkwX0_isRunning_0 ++ []
theorem dksX0_isRunning_0 : cX0_isRunning.data.toList.drop 0 = dktX0_isRunning_0 := by decide +kernel
theorem dX0_isRunning_0 : decode cX0_isRunning 0 = .ok (.aload_n 2, 1) := dk_44 (dk_at dksX0_isRunning_0 0 rfl rfl)
theorem dX0_isRunning_1 : decode cX0_isRunning 1 = .ok (.iconst 0, 1) := dk_3 (dk_at dksX0_isRunning_0 1 rfl rfl)
theorem dX0_isRunning_2 : decode cX0_isRunning 2 = .ok (.aload_n 0, 1) := dk_42 (dk_at dksX0_isRunning_0 2 rfl rfl)
theorem dX0_isRunning_3 : decode cX0_isRunning 3 = .ok (.iload_n 1, 1) := dk_27 (dk_at dksX0_isRunning_0 3 rfl rfl)
theorem dX0_isRunning_4 : decode cX0_isRunning 4 = .ok (.invokevirtual 52, 3) := dk_182 0 52 (dk_at dksX0_isRunning_0 4 rfl rfl)
theorem dX0_isRunning_7 : decode cX0_isRunning 7 = .ok (.ifCond .eq 7, 3) := dk_153 0 7 (dk_at dksX0_isRunning_0 7 rfl rfl)
theorem dX0_isRunning_10 : decode cX0_isRunning 10 = .ok (.lconst 1, 1) := dk_10 (dk_at dksX0_isRunning_0 10 rfl rfl)
theorem dX0_isRunning_11 : decode cX0_isRunning 11 = .ok (.goto 4, 3) := dk_167 0 4 (dk_at dksX0_isRunning_0 11 rfl rfl)
theorem dX0_isRunning_14 : decode cX0_isRunning 14 = .ok (.lconst 0, 1) := dk_9 (dk_at dksX0_isRunning_0 14 rfl rfl)
theorem dX0_isRunning_15 : decode cX0_isRunning 15 = .ok (.lastore, 1) := dk_80 (dk_at dksX0_isRunning_0 15 rfl rfl)
theorem dX0_isRunning_16 : decode cX0_isRunning 16 = .ok (.goto 6, 3) := dk_167 0 6 (dk_at dksX0_isRunning_0 16 rfl rfl)
theorem dX0_isRunning_19 : decode cX0_isRunning 19 = .ok (.astore_n 3, 1) := dk_78 (dk_at dksX0_isRunning_0 19 rfl rfl)
theorem dX0_isRunning_20 : decode cX0_isRunning 20 = .ok (.iconst 1, 1) := dk_4 (dk_at dksX0_isRunning_0 20 rfl rfl)
theorem dX0_isRunning_21 : decode cX0_isRunning 21 = .ok (.ireturn, 1) := dk_172 (dk_at dksX0_isRunning_0 21 rfl rfl)
theorem dX0_isRunning_22 : decode cX0_isRunning 22 = .ok (.iconst 0, 1) := dk_3 (dk_at dksX0_isRunning_0 22 rfl rfl)
theorem dX0_isRunning_23 : decode cX0_isRunning 23 = .ok (.ireturn, 1) := dk_172 (dk_at dksX0_isRunning_0 23 rfl rfl)
abbrev cX0_noiseAt : ByteArray := method_15_code
def yX0_noiseAt : MethodName := ⟨RX0, "noiseAt", "(LBenchBroker;II[J)I"⟩
def dkwX0_noiseAt_0 : List UInt8 := [45, 3, 42, 27, 28, 182, 0, 55, 133, 80, 167, 0, 7, 58, 4, 4, 172, 3, 172]
abbrev dktX0_noiseAt_0 : List UInt8 := dkwX0_noiseAt_0 ++ []
theorem dksX0_noiseAt_0 : cX0_noiseAt.data.toList.drop 0 = dktX0_noiseAt_0 := by decide +kernel
theorem dX0_noiseAt_0 : decode cX0_noiseAt 0 = .ok (.aload_n 3, 1) := dk_45 (dk_at dksX0_noiseAt_0 0 rfl rfl)
theorem dX0_noiseAt_1 : decode cX0_noiseAt 1 = .ok (.iconst 0, 1) := dk_3 (dk_at dksX0_noiseAt_0 1 rfl rfl)
theorem dX0_noiseAt_2 : decode cX0_noiseAt 2 = .ok (.aload_n 0, 1) := dk_42 (dk_at dksX0_noiseAt_0 2 rfl rfl)
theorem dX0_noiseAt_3 : decode cX0_noiseAt 3 = .ok (.iload_n 1, 1) := dk_27 (dk_at dksX0_noiseAt_0 3 rfl rfl)
theorem dX0_noiseAt_4 : decode cX0_noiseAt 4 = .ok (.iload_n 2, 1) := dk_28 (dk_at dksX0_noiseAt_0 4 rfl rfl)
theorem dX0_noiseAt_5 : decode cX0_noiseAt 5 = .ok (.invokevirtual 55, 3) := dk_182 0 55 (dk_at dksX0_noiseAt_0 5 rfl rfl)
theorem dX0_noiseAt_8 : decode cX0_noiseAt 8 = .ok (.i2l, 1) := dk_133 (dk_at dksX0_noiseAt_0 8 rfl rfl)
theorem dX0_noiseAt_9 : decode cX0_noiseAt 9 = .ok (.lastore, 1) := dk_80 (dk_at dksX0_noiseAt_0 9 rfl rfl)
theorem dX0_noiseAt_10 : decode cX0_noiseAt 10 = .ok (.goto 7, 3) := dk_167 0 7 (dk_at dksX0_noiseAt_0 10 rfl rfl)
theorem dX0_noiseAt_13 : decode cX0_noiseAt 13 = .ok (.astore 4, 2) := dk_58 4 (dk_at dksX0_noiseAt_0 13 rfl rfl)
theorem dX0_noiseAt_15 : decode cX0_noiseAt 15 = .ok (.iconst 1, 1) := dk_4 (dk_at dksX0_noiseAt_0 15 rfl rfl)
theorem dX0_noiseAt_16 : decode cX0_noiseAt 16 = .ok (.ireturn, 1) := dk_172 (dk_at dksX0_noiseAt_0 16 rfl rfl)
theorem dX0_noiseAt_17 : decode cX0_noiseAt 17 = .ok (.iconst 0, 1) := dk_3 (dk_at dksX0_noiseAt_0 17 rfl rfl)
theorem dX0_noiseAt_18 : decode cX0_noiseAt 18 = .ok (.ireturn, 1) := dk_172 (dk_at dksX0_noiseAt_0 18 rfl rfl)
abbrev cX0_noiseBySpreading : ByteArray := method_16_code
def yX0_noiseBySpreading : MethodName := ⟨RX0, "noiseBySpreading", "(LBenchBroker;II[J)I"⟩
def dkwX0_noiseBySpreading_0 : List UInt8 := [45, 3, 42, 27, 28, 182, 0, 58, 133, 80, 167, 0, 7, 58, 4, 4, 172, 3, 172]
abbrev dktX0_noiseBySpreading_0 : List UInt8 := dkwX0_noiseBySpreading_0 ++ []
theorem dksX0_noiseBySpreading_0 : cX0_noiseBySpreading.data.toList.drop 0 = dktX0_noiseBySpreading_0 := by decide +kernel
theorem dX0_noiseBySpreading_0 : decode cX0_noiseBySpreading 0 = .ok (.aload_n 3, 1) := dk_45 (dk_at dksX0_noiseBySpreading_0 0 rfl rfl)
theorem dX0_noiseBySpreading_1 : decode cX0_noiseBySpreading 1 = .ok (.iconst 0, 1) := dk_3 (dk_at dksX0_noiseBySpreading_0 1 rfl rfl)
theorem dX0_noiseBySpreading_2 : decode cX0_noiseBySpreading 2 = .ok (.aload_n 0, 1) := dk_42 (dk_at dksX0_noiseBySpreading_0 2 rfl rfl)
theorem dX0_noiseBySpreading_3 : decode cX0_noiseBySpreading 3 = .ok (.iload_n 1, 1) := dk_27 (dk_at dksX0_noiseBySpreading_0 3 rfl rfl)
theorem dX0_noiseBySpreading_4 : decode cX0_noiseBySpreading 4 = .ok (.iload_n 2, 1) := dk_28 (dk_at dksX0_noiseBySpreading_0 4 rfl rfl)
theorem dX0_noiseBySpreading_5 : decode cX0_noiseBySpreading 5 = .ok (.invokevirtual 58, 3) := dk_182 0 58 (dk_at dksX0_noiseBySpreading_0 5 rfl rfl)
theorem dX0_noiseBySpreading_8 : decode cX0_noiseBySpreading 8 = .ok (.i2l, 1) := dk_133 (dk_at dksX0_noiseBySpreading_0 8 rfl rfl)
theorem dX0_noiseBySpreading_9 : decode cX0_noiseBySpreading 9 = .ok (.lastore, 1) := dk_80 (dk_at dksX0_noiseBySpreading_0 9 rfl rfl)
theorem dX0_noiseBySpreading_10 : decode cX0_noiseBySpreading 10 = .ok (.goto 7, 3) := dk_167 0 7 (dk_at dksX0_noiseBySpreading_0 10 rfl rfl)
theorem dX0_noiseBySpreading_13 : decode cX0_noiseBySpreading 13 = .ok (.astore 4, 2) := dk_58 4 (dk_at dksX0_noiseBySpreading_0 13 rfl rfl)
theorem dX0_noiseBySpreading_15 : decode cX0_noiseBySpreading 15 = .ok (.iconst 1, 1) := dk_4 (dk_at dksX0_noiseBySpreading_0 15 rfl rfl)
theorem dX0_noiseBySpreading_16 : decode cX0_noiseBySpreading 16 = .ok (.ireturn, 1) := dk_172 (dk_at dksX0_noiseBySpreading_0 16 rfl rfl)
theorem dX0_noiseBySpreading_17 : decode cX0_noiseBySpreading 17 = .ok (.iconst 0, 1) := dk_3 (dk_at dksX0_noiseBySpreading_0 17 rfl rfl)
theorem dX0_noiseBySpreading_18 : decode cX0_noiseBySpreading 18 = .ok (.ireturn, 1) := dk_172 (dk_at dksX0_noiseBySpreading_0 18 rfl rfl)
abbrev cX0_isQuiet : ByteArray := method_17_code
def yX0_isQuiet : MethodName := ⟨RX0, "isQuiet", "(LBenchBroker;I[J)I"⟩
def dkwX0_isQuiet_0 : List UInt8 := [44, 3, 42, 27, 182, 0, 61, 153, 0, 7, 10, 167, 0, 4, 9, 80, 167, 0, 6, 78, 4, 172, 3, 172]
abbrev dktX0_isQuiet_0 : List UInt8 := dkwX0_isQuiet_0 ++ []
theorem dksX0_isQuiet_0 : cX0_isQuiet.data.toList.drop 0 = dktX0_isQuiet_0 := by decide +kernel
theorem dX0_isQuiet_0 : decode cX0_isQuiet 0 = .ok (.aload_n 2, 1) := dk_44 (dk_at dksX0_isQuiet_0 0 rfl rfl)
theorem dX0_isQuiet_1 : decode cX0_isQuiet 1 = .ok (.iconst 0, 1) := dk_3 (dk_at dksX0_isQuiet_0 1 rfl rfl)
theorem dX0_isQuiet_2 : decode cX0_isQuiet 2 = .ok (.aload_n 0, 1) := dk_42 (dk_at dksX0_isQuiet_0 2 rfl rfl)
theorem dX0_isQuiet_3 : decode cX0_isQuiet 3 = .ok (.iload_n 1, 1) := dk_27 (dk_at dksX0_isQuiet_0 3 rfl rfl)
theorem dX0_isQuiet_4 : decode cX0_isQuiet 4 = .ok (.invokevirtual 61, 3) := dk_182 0 61 (dk_at dksX0_isQuiet_0 4 rfl rfl)
theorem dX0_isQuiet_7 : decode cX0_isQuiet 7 = .ok (.ifCond .eq 7, 3) := dk_153 0 7 (dk_at dksX0_isQuiet_0 7 rfl rfl)
theorem dX0_isQuiet_10 : decode cX0_isQuiet 10 = .ok (.lconst 1, 1) := dk_10 (dk_at dksX0_isQuiet_0 10 rfl rfl)
theorem dX0_isQuiet_11 : decode cX0_isQuiet 11 = .ok (.goto 4, 3) := dk_167 0 4 (dk_at dksX0_isQuiet_0 11 rfl rfl)
theorem dX0_isQuiet_14 : decode cX0_isQuiet 14 = .ok (.lconst 0, 1) := dk_9 (dk_at dksX0_isQuiet_0 14 rfl rfl)
theorem dX0_isQuiet_15 : decode cX0_isQuiet 15 = .ok (.lastore, 1) := dk_80 (dk_at dksX0_isQuiet_0 15 rfl rfl)
theorem dX0_isQuiet_16 : decode cX0_isQuiet 16 = .ok (.goto 6, 3) := dk_167 0 6 (dk_at dksX0_isQuiet_0 16 rfl rfl)
theorem dX0_isQuiet_19 : decode cX0_isQuiet 19 = .ok (.astore_n 3, 1) := dk_78 (dk_at dksX0_isQuiet_0 19 rfl rfl)
theorem dX0_isQuiet_20 : decode cX0_isQuiet 20 = .ok (.iconst 1, 1) := dk_4 (dk_at dksX0_isQuiet_0 20 rfl rfl)
theorem dX0_isQuiet_21 : decode cX0_isQuiet 21 = .ok (.ireturn, 1) := dk_172 (dk_at dksX0_isQuiet_0 21 rfl rfl)
theorem dX0_isQuiet_22 : decode cX0_isQuiet 22 = .ok (.iconst 0, 1) := dk_3 (dk_at dksX0_isQuiet_0 22 rfl rfl)
theorem dX0_isQuiet_23 : decode cX0_isQuiet 23 = .ok (.ireturn, 1) := dk_172 (dk_at dksX0_isQuiet_0 23 rfl rfl)
abbrev cX0_addTenant : ByteArray := method_18_code
def yX0_addTenant : MethodName := ⟨RX0, "addTenant", "(LBenchBroker;I[J)I"⟩
def dkwX0_addTenant_0 : List UInt8 := [44, 3, 42, 27, 182, 0, 64, 133, 80, 167, 0, 9, 78, 4, 172, 78, 5, 172, 3, 172]
abbrev dktX0_addTenant_0 : List UInt8 := dkwX0_addTenant_0 ++ []
theorem dksX0_addTenant_0 : cX0_addTenant.data.toList.drop 0 = dktX0_addTenant_0 := by decide +kernel
theorem dX0_addTenant_0 : decode cX0_addTenant 0 = .ok (.aload_n 2, 1) := dk_44 (dk_at dksX0_addTenant_0 0 rfl rfl)
theorem dX0_addTenant_1 : decode cX0_addTenant 1 = .ok (.iconst 0, 1) := dk_3 (dk_at dksX0_addTenant_0 1 rfl rfl)
theorem dX0_addTenant_2 : decode cX0_addTenant 2 = .ok (.aload_n 0, 1) := dk_42 (dk_at dksX0_addTenant_0 2 rfl rfl)
theorem dX0_addTenant_3 : decode cX0_addTenant 3 = .ok (.iload_n 1, 1) := dk_27 (dk_at dksX0_addTenant_0 3 rfl rfl)
theorem dX0_addTenant_4 : decode cX0_addTenant 4 = .ok (.invokevirtual 64, 3) := dk_182 0 64 (dk_at dksX0_addTenant_0 4 rfl rfl)
theorem dX0_addTenant_7 : decode cX0_addTenant 7 = .ok (.i2l, 1) := dk_133 (dk_at dksX0_addTenant_0 7 rfl rfl)
theorem dX0_addTenant_8 : decode cX0_addTenant 8 = .ok (.lastore, 1) := dk_80 (dk_at dksX0_addTenant_0 8 rfl rfl)
theorem dX0_addTenant_9 : decode cX0_addTenant 9 = .ok (.goto 9, 3) := dk_167 0 9 (dk_at dksX0_addTenant_0 9 rfl rfl)
theorem dX0_addTenant_12 : decode cX0_addTenant 12 = .ok (.astore_n 3, 1) := dk_78 (dk_at dksX0_addTenant_0 12 rfl rfl)
theorem dX0_addTenant_13 : decode cX0_addTenant 13 = .ok (.iconst 1, 1) := dk_4 (dk_at dksX0_addTenant_0 13 rfl rfl)
theorem dX0_addTenant_14 : decode cX0_addTenant 14 = .ok (.ireturn, 1) := dk_172 (dk_at dksX0_addTenant_0 14 rfl rfl)
theorem dX0_addTenant_15 : decode cX0_addTenant 15 = .ok (.astore_n 3, 1) := dk_78 (dk_at dksX0_addTenant_0 15 rfl rfl)
theorem dX0_addTenant_16 : decode cX0_addTenant 16 = .ok (.iconst 2, 1) := dk_5 (dk_at dksX0_addTenant_0 16 rfl rfl)
theorem dX0_addTenant_17 : decode cX0_addTenant 17 = .ok (.ireturn, 1) := dk_172 (dk_at dksX0_addTenant_0 17 rfl rfl)
theorem dX0_addTenant_18 : decode cX0_addTenant 18 = .ok (.iconst 0, 1) := dk_3 (dk_at dksX0_addTenant_0 18 rfl rfl)
theorem dX0_addTenant_19 : decode cX0_addTenant 19 = .ok (.ireturn, 1) := dk_172 (dk_at dksX0_addTenant_0 19 rfl rfl)
abbrev cX0_giveCoins : ByteArray := method_19_code
def yX0_giveCoins : MethodName := ⟨RX0, "giveCoins", "(LBenchBroker;II[J)I"⟩
def dkwX0_giveCoins_0 : List UInt8 := [45, 3, 42, 27, 28, 182, 0, 67, 133, 80, 167, 0, 11, 58, 4, 4, 172, 58, 4, 5, 172, 3, 172]
abbrev dktX0_giveCoins_0 : List UInt8 := dkwX0_giveCoins_0 ++ []
theorem dksX0_giveCoins_0 : cX0_giveCoins.data.toList.drop 0 = dktX0_giveCoins_0 := by decide +kernel
theorem dX0_giveCoins_0 : decode cX0_giveCoins 0 = .ok (.aload_n 3, 1) := dk_45 (dk_at dksX0_giveCoins_0 0 rfl rfl)
theorem dX0_giveCoins_1 : decode cX0_giveCoins 1 = .ok (.iconst 0, 1) := dk_3 (dk_at dksX0_giveCoins_0 1 rfl rfl)
theorem dX0_giveCoins_2 : decode cX0_giveCoins 2 = .ok (.aload_n 0, 1) := dk_42 (dk_at dksX0_giveCoins_0 2 rfl rfl)
theorem dX0_giveCoins_3 : decode cX0_giveCoins 3 = .ok (.iload_n 1, 1) := dk_27 (dk_at dksX0_giveCoins_0 3 rfl rfl)
theorem dX0_giveCoins_4 : decode cX0_giveCoins 4 = .ok (.iload_n 2, 1) := dk_28 (dk_at dksX0_giveCoins_0 4 rfl rfl)
theorem dX0_giveCoins_5 : decode cX0_giveCoins 5 = .ok (.invokevirtual 67, 3) := dk_182 0 67 (dk_at dksX0_giveCoins_0 5 rfl rfl)
theorem dX0_giveCoins_8 : decode cX0_giveCoins 8 = .ok (.i2l, 1) := dk_133 (dk_at dksX0_giveCoins_0 8 rfl rfl)
theorem dX0_giveCoins_9 : decode cX0_giveCoins 9 = .ok (.lastore, 1) := dk_80 (dk_at dksX0_giveCoins_0 9 rfl rfl)
theorem dX0_giveCoins_10 : decode cX0_giveCoins 10 = .ok (.goto 11, 3) := dk_167 0 11 (dk_at dksX0_giveCoins_0 10 rfl rfl)
theorem dX0_giveCoins_13 : decode cX0_giveCoins 13 = .ok (.astore 4, 2) := dk_58 4 (dk_at dksX0_giveCoins_0 13 rfl rfl)
theorem dX0_giveCoins_15 : decode cX0_giveCoins 15 = .ok (.iconst 1, 1) := dk_4 (dk_at dksX0_giveCoins_0 15 rfl rfl)
theorem dX0_giveCoins_16 : decode cX0_giveCoins 16 = .ok (.ireturn, 1) := dk_172 (dk_at dksX0_giveCoins_0 16 rfl rfl)
theorem dX0_giveCoins_17 : decode cX0_giveCoins 17 = .ok (.astore 4, 2) := dk_58 4 (dk_at dksX0_giveCoins_0 17 rfl rfl)
theorem dX0_giveCoins_19 : decode cX0_giveCoins 19 = .ok (.iconst 2, 1) := dk_5 (dk_at dksX0_giveCoins_0 19 rfl rfl)
theorem dX0_giveCoins_20 : decode cX0_giveCoins 20 = .ok (.ireturn, 1) := dk_172 (dk_at dksX0_giveCoins_0 20 rfl rfl)
theorem dX0_giveCoins_21 : decode cX0_giveCoins 21 = .ok (.iconst 0, 1) := dk_3 (dk_at dksX0_giveCoins_0 21 rfl rfl)
theorem dX0_giveCoins_22 : decode cX0_giveCoins 22 = .ok (.ireturn, 1) := dk_172 (dk_at dksX0_giveCoins_0 22 rfl rfl)
abbrev cX0_coinsOf : ByteArray := method_20_code
def yX0_coinsOf : MethodName := ⟨RX0, "coinsOf", "(LBenchBroker;I[J)I"⟩
def dkwX0_coinsOf_0 : List UInt8 := [44, 3, 42, 27, 182, 0, 70, 133, 80, 167, 0, 6, 78, 4, 172, 3, 172]
abbrev dktX0_coinsOf_0 : List UInt8 := dkwX0_coinsOf_0 ++ []
theorem dksX0_coinsOf_0 : cX0_coinsOf.data.toList.drop 0 = dktX0_coinsOf_0 := by decide +kernel
theorem dX0_coinsOf_0 : decode cX0_coinsOf 0 = .ok (.aload_n 2, 1) := dk_44 (dk_at dksX0_coinsOf_0 0 rfl rfl)
theorem dX0_coinsOf_1 : decode cX0_coinsOf 1 = .ok (.iconst 0, 1) := dk_3 (dk_at dksX0_coinsOf_0 1 rfl rfl)
theorem dX0_coinsOf_2 : decode cX0_coinsOf 2 = .ok (.aload_n 0, 1) := dk_42 (dk_at dksX0_coinsOf_0 2 rfl rfl)
theorem dX0_coinsOf_3 : decode cX0_coinsOf 3 = .ok (.iload_n 1, 1) := dk_27 (dk_at dksX0_coinsOf_0 3 rfl rfl)
theorem dX0_coinsOf_4 : decode cX0_coinsOf 4 = .ok (.invokevirtual 70, 3) := dk_182 0 70 (dk_at dksX0_coinsOf_0 4 rfl rfl)
theorem dX0_coinsOf_7 : decode cX0_coinsOf 7 = .ok (.i2l, 1) := dk_133 (dk_at dksX0_coinsOf_0 7 rfl rfl)
theorem dX0_coinsOf_8 : decode cX0_coinsOf 8 = .ok (.lastore, 1) := dk_80 (dk_at dksX0_coinsOf_0 8 rfl rfl)
theorem dX0_coinsOf_9 : decode cX0_coinsOf 9 = .ok (.goto 6, 3) := dk_167 0 6 (dk_at dksX0_coinsOf_0 9 rfl rfl)
theorem dX0_coinsOf_12 : decode cX0_coinsOf 12 = .ok (.astore_n 3, 1) := dk_78 (dk_at dksX0_coinsOf_0 12 rfl rfl)
theorem dX0_coinsOf_13 : decode cX0_coinsOf 13 = .ok (.iconst 1, 1) := dk_4 (dk_at dksX0_coinsOf_0 13 rfl rfl)
theorem dX0_coinsOf_14 : decode cX0_coinsOf 14 = .ok (.ireturn, 1) := dk_172 (dk_at dksX0_coinsOf_0 14 rfl rfl)
theorem dX0_coinsOf_15 : decode cX0_coinsOf 15 = .ok (.iconst 0, 1) := dk_3 (dk_at dksX0_coinsOf_0 15 rfl rfl)
theorem dX0_coinsOf_16 : decode cX0_coinsOf 16 = .ok (.ireturn, 1) := dk_172 (dk_at dksX0_coinsOf_0 16 rfl rfl)
abbrev cX0_defaultsOf : ByteArray := method_21_code
def yX0_defaultsOf : MethodName := ⟨RX0, "defaultsOf", "(LBenchBroker;I[J)I"⟩
def dkwX0_defaultsOf_0 : List UInt8 := [44, 3, 42, 27, 182, 0, 73, 133, 80, 167, 0, 6, 78, 4, 172, 3, 172]
abbrev dktX0_defaultsOf_0 : List UInt8 := dkwX0_defaultsOf_0 ++ []
theorem dksX0_defaultsOf_0 : cX0_defaultsOf.data.toList.drop 0 = dktX0_defaultsOf_0 := by decide +kernel
theorem dX0_defaultsOf_0 : decode cX0_defaultsOf 0 = .ok (.aload_n 2, 1) := dk_44 (dk_at dksX0_defaultsOf_0 0 rfl rfl)
theorem dX0_defaultsOf_1 : decode cX0_defaultsOf 1 = .ok (.iconst 0, 1) := dk_3 (dk_at dksX0_defaultsOf_0 1 rfl rfl)
theorem dX0_defaultsOf_2 : decode cX0_defaultsOf 2 = .ok (.aload_n 0, 1) := dk_42 (dk_at dksX0_defaultsOf_0 2 rfl rfl)
theorem dX0_defaultsOf_3 : decode cX0_defaultsOf 3 = .ok (.iload_n 1, 1) := dk_27 (dk_at dksX0_defaultsOf_0 3 rfl rfl)
theorem dX0_defaultsOf_4 : decode cX0_defaultsOf 4 = .ok (.invokevirtual 73, 3) := dk_182 0 73 (dk_at dksX0_defaultsOf_0 4 rfl rfl)
theorem dX0_defaultsOf_7 : decode cX0_defaultsOf 7 = .ok (.i2l, 1) := dk_133 (dk_at dksX0_defaultsOf_0 7 rfl rfl)
theorem dX0_defaultsOf_8 : decode cX0_defaultsOf 8 = .ok (.lastore, 1) := dk_80 (dk_at dksX0_defaultsOf_0 8 rfl rfl)
theorem dX0_defaultsOf_9 : decode cX0_defaultsOf 9 = .ok (.goto 6, 3) := dk_167 0 6 (dk_at dksX0_defaultsOf_0 9 rfl rfl)
theorem dX0_defaultsOf_12 : decode cX0_defaultsOf 12 = .ok (.astore_n 3, 1) := dk_78 (dk_at dksX0_defaultsOf_0 12 rfl rfl)
theorem dX0_defaultsOf_13 : decode cX0_defaultsOf 13 = .ok (.iconst 1, 1) := dk_4 (dk_at dksX0_defaultsOf_0 13 rfl rfl)
theorem dX0_defaultsOf_14 : decode cX0_defaultsOf 14 = .ok (.ireturn, 1) := dk_172 (dk_at dksX0_defaultsOf_0 14 rfl rfl)
theorem dX0_defaultsOf_15 : decode cX0_defaultsOf 15 = .ok (.iconst 0, 1) := dk_3 (dk_at dksX0_defaultsOf_0 15 rfl rfl)
theorem dX0_defaultsOf_16 : decode cX0_defaultsOf 16 = .ok (.ireturn, 1) := dk_172 (dk_at dksX0_defaultsOf_0 16 rfl rfl)
abbrev cX0_benchOf : ByteArray := method_22_code
def yX0_benchOf : MethodName := ⟨RX0, "benchOf", "(LBenchBroker;I[J)I"⟩
def dkwX0_benchOf_0 : List UInt8 := [44, 3, 42, 27, 182, 0, 76, 133, 80, 167, 0, 9, 78, 4, 172, 78, 5, 172, 3, 172]
abbrev dktX0_benchOf_0 : List UInt8 := dkwX0_benchOf_0 ++ []
theorem dksX0_benchOf_0 : cX0_benchOf.data.toList.drop 0 = dktX0_benchOf_0 := by decide +kernel
theorem dX0_benchOf_0 : decode cX0_benchOf 0 = .ok (.aload_n 2, 1) := dk_44 (dk_at dksX0_benchOf_0 0 rfl rfl)
theorem dX0_benchOf_1 : decode cX0_benchOf 1 = .ok (.iconst 0, 1) := dk_3 (dk_at dksX0_benchOf_0 1 rfl rfl)
theorem dX0_benchOf_2 : decode cX0_benchOf 2 = .ok (.aload_n 0, 1) := dk_42 (dk_at dksX0_benchOf_0 2 rfl rfl)
theorem dX0_benchOf_3 : decode cX0_benchOf 3 = .ok (.iload_n 1, 1) := dk_27 (dk_at dksX0_benchOf_0 3 rfl rfl)
theorem dX0_benchOf_4 : decode cX0_benchOf 4 = .ok (.invokevirtual 76, 3) := dk_182 0 76 (dk_at dksX0_benchOf_0 4 rfl rfl)
theorem dX0_benchOf_7 : decode cX0_benchOf 7 = .ok (.i2l, 1) := dk_133 (dk_at dksX0_benchOf_0 7 rfl rfl)
theorem dX0_benchOf_8 : decode cX0_benchOf 8 = .ok (.lastore, 1) := dk_80 (dk_at dksX0_benchOf_0 8 rfl rfl)
theorem dX0_benchOf_9 : decode cX0_benchOf 9 = .ok (.goto 9, 3) := dk_167 0 9 (dk_at dksX0_benchOf_0 9 rfl rfl)
theorem dX0_benchOf_12 : decode cX0_benchOf 12 = .ok (.astore_n 3, 1) := dk_78 (dk_at dksX0_benchOf_0 12 rfl rfl)
theorem dX0_benchOf_13 : decode cX0_benchOf 13 = .ok (.iconst 1, 1) := dk_4 (dk_at dksX0_benchOf_0 13 rfl rfl)
theorem dX0_benchOf_14 : decode cX0_benchOf 14 = .ok (.ireturn, 1) := dk_172 (dk_at dksX0_benchOf_0 14 rfl rfl)
theorem dX0_benchOf_15 : decode cX0_benchOf 15 = .ok (.astore_n 3, 1) := dk_78 (dk_at dksX0_benchOf_0 15 rfl rfl)
theorem dX0_benchOf_16 : decode cX0_benchOf 16 = .ok (.iconst 2, 1) := dk_5 (dk_at dksX0_benchOf_0 16 rfl rfl)
theorem dX0_benchOf_17 : decode cX0_benchOf 17 = .ok (.ireturn, 1) := dk_172 (dk_at dksX0_benchOf_0 17 rfl rfl)
theorem dX0_benchOf_18 : decode cX0_benchOf 18 = .ok (.iconst 0, 1) := dk_3 (dk_at dksX0_benchOf_0 18 rfl rfl)
theorem dX0_benchOf_19 : decode cX0_benchOf 19 = .ok (.ireturn, 1) := dk_172 (dk_at dksX0_benchOf_0 19 rfl rfl)
abbrev cX0_canLease : ByteArray := method_23_code
def yX0_canLease : MethodName := ⟨RX0, "canLease", "(LBenchBroker;II[J)I"⟩
def dkwX0_canLease_1 : List UInt8 := [3, 172]
abbrev dktX0_canLease_1 : List UInt8 := dkwX0_canLease_1 ++ []
def dkwX0_canLease_0 : List UInt8 := [45, 3, 42, 27, 28, 182, 0, 81, 153, 0, 7, 10, 167, 0, 4, 9, 80, 167, 0, 7, 58, 4, 4, 172]
abbrev dktX0_canLease_0 : List UInt8 := dkwX0_canLease_0 ++ dktX0_canLease_1
theorem dksX0_canLease_0 : cX0_canLease.data.toList.drop 0 = dktX0_canLease_0 := by decide +kernel
theorem dksX0_canLease_1 : cX0_canLease.data.toList.drop 24 = dktX0_canLease_1 := dk_seg dksX0_canLease_0 24 rfl rfl
theorem dX0_canLease_0 : decode cX0_canLease 0 = .ok (.aload_n 3, 1) := dk_45 (dk_at dksX0_canLease_0 0 rfl rfl)
theorem dX0_canLease_1 : decode cX0_canLease 1 = .ok (.iconst 0, 1) := dk_3 (dk_at dksX0_canLease_0 1 rfl rfl)
theorem dX0_canLease_2 : decode cX0_canLease 2 = .ok (.aload_n 0, 1) := dk_42 (dk_at dksX0_canLease_0 2 rfl rfl)
theorem dX0_canLease_3 : decode cX0_canLease 3 = .ok (.iload_n 1, 1) := dk_27 (dk_at dksX0_canLease_0 3 rfl rfl)
theorem dX0_canLease_4 : decode cX0_canLease 4 = .ok (.iload_n 2, 1) := dk_28 (dk_at dksX0_canLease_0 4 rfl rfl)
theorem dX0_canLease_5 : decode cX0_canLease 5 = .ok (.invokevirtual 81, 3) := dk_182 0 81 (dk_at dksX0_canLease_0 5 rfl rfl)
theorem dX0_canLease_8 : decode cX0_canLease 8 = .ok (.ifCond .eq 7, 3) := dk_153 0 7 (dk_at dksX0_canLease_0 8 rfl rfl)
theorem dX0_canLease_11 : decode cX0_canLease 11 = .ok (.lconst 1, 1) := dk_10 (dk_at dksX0_canLease_0 11 rfl rfl)
theorem dX0_canLease_12 : decode cX0_canLease 12 = .ok (.goto 4, 3) := dk_167 0 4 (dk_at dksX0_canLease_0 12 rfl rfl)
theorem dX0_canLease_15 : decode cX0_canLease 15 = .ok (.lconst 0, 1) := dk_9 (dk_at dksX0_canLease_0 15 rfl rfl)
theorem dX0_canLease_16 : decode cX0_canLease 16 = .ok (.lastore, 1) := dk_80 (dk_at dksX0_canLease_0 16 rfl rfl)
theorem dX0_canLease_17 : decode cX0_canLease 17 = .ok (.goto 7, 3) := dk_167 0 7 (dk_at dksX0_canLease_0 17 rfl rfl)
theorem dX0_canLease_20 : decode cX0_canLease 20 = .ok (.astore 4, 2) := dk_58 4 (dk_at dksX0_canLease_0 20 rfl rfl)
theorem dX0_canLease_22 : decode cX0_canLease 22 = .ok (.iconst 1, 1) := dk_4 (dk_at dksX0_canLease_0 22 rfl rfl)
theorem dX0_canLease_23 : decode cX0_canLease 23 = .ok (.ireturn, 1) := dk_172 (dk_at dksX0_canLease_0 23 rfl rfl)
theorem dX0_canLease_24 : decode cX0_canLease 24 = .ok (.iconst 0, 1) := dk_3 (dk_at dksX0_canLease_1 0 rfl rfl)
theorem dX0_canLease_25 : decode cX0_canLease 25 = .ok (.ireturn, 1) := dk_172 (dk_at dksX0_canLease_1 1 rfl rfl)
abbrev cX0_cheapestFor : ByteArray := method_24_code
def yX0_cheapestFor : MethodName := ⟨RX0, "cheapestFor", "(LBenchBroker;I[J)I"⟩
def dkwX0_cheapestFor_0 : List UInt8 := [44, 3, 42, 27, 182, 0, 85, 133, 80, 167, 0, 9, 78, 4, 172, 78, 5, 172, 3, 172]
abbrev dktX0_cheapestFor_0 : List UInt8 := dkwX0_cheapestFor_0 ++ []
theorem dksX0_cheapestFor_0 : cX0_cheapestFor.data.toList.drop 0 = dktX0_cheapestFor_0 := by decide +kernel
theorem dX0_cheapestFor_0 : decode cX0_cheapestFor 0 = .ok (.aload_n 2, 1) := dk_44 (dk_at dksX0_cheapestFor_0 0 rfl rfl)
theorem dX0_cheapestFor_1 : decode cX0_cheapestFor 1 = .ok (.iconst 0, 1) := dk_3 (dk_at dksX0_cheapestFor_0 1 rfl rfl)
theorem dX0_cheapestFor_2 : decode cX0_cheapestFor 2 = .ok (.aload_n 0, 1) := dk_42 (dk_at dksX0_cheapestFor_0 2 rfl rfl)
theorem dX0_cheapestFor_3 : decode cX0_cheapestFor 3 = .ok (.iload_n 1, 1) := dk_27 (dk_at dksX0_cheapestFor_0 3 rfl rfl)
theorem dX0_cheapestFor_4 : decode cX0_cheapestFor 4 = .ok (.invokevirtual 85, 3) := dk_182 0 85 (dk_at dksX0_cheapestFor_0 4 rfl rfl)
theorem dX0_cheapestFor_7 : decode cX0_cheapestFor 7 = .ok (.i2l, 1) := dk_133 (dk_at dksX0_cheapestFor_0 7 rfl rfl)
theorem dX0_cheapestFor_8 : decode cX0_cheapestFor 8 = .ok (.lastore, 1) := dk_80 (dk_at dksX0_cheapestFor_0 8 rfl rfl)
theorem dX0_cheapestFor_9 : decode cX0_cheapestFor 9 = .ok (.goto 9, 3) := dk_167 0 9 (dk_at dksX0_cheapestFor_0 9 rfl rfl)
theorem dX0_cheapestFor_12 : decode cX0_cheapestFor 12 = .ok (.astore_n 3, 1) := dk_78 (dk_at dksX0_cheapestFor_0 12 rfl rfl)
theorem dX0_cheapestFor_13 : decode cX0_cheapestFor 13 = .ok (.iconst 1, 1) := dk_4 (dk_at dksX0_cheapestFor_0 13 rfl rfl)
theorem dX0_cheapestFor_14 : decode cX0_cheapestFor 14 = .ok (.ireturn, 1) := dk_172 (dk_at dksX0_cheapestFor_0 14 rfl rfl)
theorem dX0_cheapestFor_15 : decode cX0_cheapestFor 15 = .ok (.astore_n 3, 1) := dk_78 (dk_at dksX0_cheapestFor_0 15 rfl rfl)
theorem dX0_cheapestFor_16 : decode cX0_cheapestFor 16 = .ok (.iconst 2, 1) := dk_5 (dk_at dksX0_cheapestFor_0 16 rfl rfl)
theorem dX0_cheapestFor_17 : decode cX0_cheapestFor 17 = .ok (.ireturn, 1) := dk_172 (dk_at dksX0_cheapestFor_0 17 rfl rfl)
theorem dX0_cheapestFor_18 : decode cX0_cheapestFor 18 = .ok (.iconst 0, 1) := dk_3 (dk_at dksX0_cheapestFor_0 18 rfl rfl)
theorem dX0_cheapestFor_19 : decode cX0_cheapestFor 19 = .ok (.ireturn, 1) := dk_172 (dk_at dksX0_cheapestFor_0 19 rfl rfl)
abbrev cX0_lease : ByteArray := method_25_code
def yX0_lease : MethodName := ⟨RX0, "lease", "(LBenchBroker;III[J)I"⟩
def dkwX0_lease_1 : List UInt8 := [58, 5, 6, 172, 3, 172]
abbrev dktX0_lease_1 : List UInt8 := dkwX0_lease_1 ++ []
def dkwX0_lease_0 : List UInt8 := [25, 4, 3, 42, 27, 28, 29, 182, 0, 88, 133, 80, 167, 0, 15, 58, 5, 4, 172, 58, 5, 5, 172]
abbrev dktX0_lease_0 : List UInt8 := dkwX0_lease_0 ++ dktX0_lease_1
theorem dksX0_lease_0 : cX0_lease.data.toList.drop 0 = dktX0_lease_0 := by decide +kernel
theorem dksX0_lease_1 : cX0_lease.data.toList.drop 23 = dktX0_lease_1 := dk_seg dksX0_lease_0 23 rfl rfl
theorem dX0_lease_0 : decode cX0_lease 0 = .ok (.aload 4, 2) := dk_25 4 (dk_at dksX0_lease_0 0 rfl rfl)
theorem dX0_lease_2 : decode cX0_lease 2 = .ok (.iconst 0, 1) := dk_3 (dk_at dksX0_lease_0 2 rfl rfl)
theorem dX0_lease_3 : decode cX0_lease 3 = .ok (.aload_n 0, 1) := dk_42 (dk_at dksX0_lease_0 3 rfl rfl)
theorem dX0_lease_4 : decode cX0_lease 4 = .ok (.iload_n 1, 1) := dk_27 (dk_at dksX0_lease_0 4 rfl rfl)
theorem dX0_lease_5 : decode cX0_lease 5 = .ok (.iload_n 2, 1) := dk_28 (dk_at dksX0_lease_0 5 rfl rfl)
theorem dX0_lease_6 : decode cX0_lease 6 = .ok (.iload_n 3, 1) := dk_29 (dk_at dksX0_lease_0 6 rfl rfl)
theorem dX0_lease_7 : decode cX0_lease 7 = .ok (.invokevirtual 88, 3) := dk_182 0 88 (dk_at dksX0_lease_0 7 rfl rfl)
theorem dX0_lease_10 : decode cX0_lease 10 = .ok (.i2l, 1) := dk_133 (dk_at dksX0_lease_0 10 rfl rfl)
theorem dX0_lease_11 : decode cX0_lease 11 = .ok (.lastore, 1) := dk_80 (dk_at dksX0_lease_0 11 rfl rfl)
theorem dX0_lease_12 : decode cX0_lease 12 = .ok (.goto 15, 3) := dk_167 0 15 (dk_at dksX0_lease_0 12 rfl rfl)
theorem dX0_lease_15 : decode cX0_lease 15 = .ok (.astore 5, 2) := dk_58 5 (dk_at dksX0_lease_0 15 rfl rfl)
theorem dX0_lease_17 : decode cX0_lease 17 = .ok (.iconst 1, 1) := dk_4 (dk_at dksX0_lease_0 17 rfl rfl)
theorem dX0_lease_18 : decode cX0_lease 18 = .ok (.ireturn, 1) := dk_172 (dk_at dksX0_lease_0 18 rfl rfl)
theorem dX0_lease_19 : decode cX0_lease 19 = .ok (.astore 5, 2) := dk_58 5 (dk_at dksX0_lease_0 19 rfl rfl)
theorem dX0_lease_21 : decode cX0_lease 21 = .ok (.iconst 2, 1) := dk_5 (dk_at dksX0_lease_0 21 rfl rfl)
theorem dX0_lease_22 : decode cX0_lease 22 = .ok (.ireturn, 1) := dk_172 (dk_at dksX0_lease_0 22 rfl rfl)
theorem dX0_lease_23 : decode cX0_lease 23 = .ok (.astore 5, 2) := dk_58 5 (dk_at dksX0_lease_1 0 rfl rfl)
theorem dX0_lease_25 : decode cX0_lease 25 = .ok (.iconst 3, 1) := dk_6 (dk_at dksX0_lease_1 2 rfl rfl)
theorem dX0_lease_26 : decode cX0_lease 26 = .ok (.ireturn, 1) := dk_172 (dk_at dksX0_lease_1 3 rfl rfl)
theorem dX0_lease_27 : decode cX0_lease 27 = .ok (.iconst 0, 1) := dk_3 (dk_at dksX0_lease_1 4 rfl rfl)
theorem dX0_lease_28 : decode cX0_lease 28 = .ok (.ireturn, 1) := dk_172 (dk_at dksX0_lease_1 5 rfl rfl)
abbrev cX0_endLease : ByteArray := method_26_code
def yX0_endLease : MethodName := ⟨RX0, "endLease", "(LBenchBroker;I[J)I"⟩
def dkwX0_endLease_0 : List UInt8 := [44, 3, 42, 27, 182, 0, 91, 133, 80, 167, 0, 9, 78, 4, 172, 78, 5, 172, 3, 172]
abbrev dktX0_endLease_0 : List UInt8 := dkwX0_endLease_0 ++ []
theorem dksX0_endLease_0 : cX0_endLease.data.toList.drop 0 = dktX0_endLease_0 := by decide +kernel
theorem dX0_endLease_0 : decode cX0_endLease 0 = .ok (.aload_n 2, 1) := dk_44 (dk_at dksX0_endLease_0 0 rfl rfl)
theorem dX0_endLease_1 : decode cX0_endLease 1 = .ok (.iconst 0, 1) := dk_3 (dk_at dksX0_endLease_0 1 rfl rfl)
theorem dX0_endLease_2 : decode cX0_endLease 2 = .ok (.aload_n 0, 1) := dk_42 (dk_at dksX0_endLease_0 2 rfl rfl)
theorem dX0_endLease_3 : decode cX0_endLease 3 = .ok (.iload_n 1, 1) := dk_27 (dk_at dksX0_endLease_0 3 rfl rfl)
theorem dX0_endLease_4 : decode cX0_endLease 4 = .ok (.invokevirtual 91, 3) := dk_182 0 91 (dk_at dksX0_endLease_0 4 rfl rfl)
theorem dX0_endLease_7 : decode cX0_endLease 7 = .ok (.i2l, 1) := dk_133 (dk_at dksX0_endLease_0 7 rfl rfl)
theorem dX0_endLease_8 : decode cX0_endLease 8 = .ok (.lastore, 1) := dk_80 (dk_at dksX0_endLease_0 8 rfl rfl)
theorem dX0_endLease_9 : decode cX0_endLease 9 = .ok (.goto 9, 3) := dk_167 0 9 (dk_at dksX0_endLease_0 9 rfl rfl)
theorem dX0_endLease_12 : decode cX0_endLease 12 = .ok (.astore_n 3, 1) := dk_78 (dk_at dksX0_endLease_0 12 rfl rfl)
theorem dX0_endLease_13 : decode cX0_endLease 13 = .ok (.iconst 1, 1) := dk_4 (dk_at dksX0_endLease_0 13 rfl rfl)
theorem dX0_endLease_14 : decode cX0_endLease 14 = .ok (.ireturn, 1) := dk_172 (dk_at dksX0_endLease_0 14 rfl rfl)
theorem dX0_endLease_15 : decode cX0_endLease 15 = .ok (.astore_n 3, 1) := dk_78 (dk_at dksX0_endLease_0 15 rfl rfl)
theorem dX0_endLease_16 : decode cX0_endLease 16 = .ok (.iconst 2, 1) := dk_5 (dk_at dksX0_endLease_0 16 rfl rfl)
theorem dX0_endLease_17 : decode cX0_endLease 17 = .ok (.ireturn, 1) := dk_172 (dk_at dksX0_endLease_0 17 rfl rfl)
theorem dX0_endLease_18 : decode cX0_endLease 18 = .ok (.iconst 0, 1) := dk_3 (dk_at dksX0_endLease_0 18 rfl rfl)
theorem dX0_endLease_19 : decode cX0_endLease 19 = .ok (.ireturn, 1) := dk_172 (dk_at dksX0_endLease_0 19 rfl rfl)
abbrev cX0_renew : ByteArray := method_27_code
def yX0_renew : MethodName := ⟨RX0, "renew", "(LBenchBroker;II[J)I"⟩
def dkwX0_renew_1 : List UInt8 := [172, 3, 172]
abbrev dktX0_renew_1 : List UInt8 := dkwX0_renew_1 ++ []
def dkwX0_renew_0 : List UInt8 := [45, 3, 42, 27, 28, 182, 0, 94, 133, 80, 167, 0, 15, 58, 4, 4, 172, 58, 4, 5, 172, 58, 4, 6]
abbrev dktX0_renew_0 : List UInt8 := dkwX0_renew_0 ++ dktX0_renew_1
theorem dksX0_renew_0 : cX0_renew.data.toList.drop 0 = dktX0_renew_0 := by decide +kernel
theorem dksX0_renew_1 : cX0_renew.data.toList.drop 24 = dktX0_renew_1 := dk_seg dksX0_renew_0 24 rfl rfl
theorem dX0_renew_0 : decode cX0_renew 0 = .ok (.aload_n 3, 1) := dk_45 (dk_at dksX0_renew_0 0 rfl rfl)
theorem dX0_renew_1 : decode cX0_renew 1 = .ok (.iconst 0, 1) := dk_3 (dk_at dksX0_renew_0 1 rfl rfl)
theorem dX0_renew_2 : decode cX0_renew 2 = .ok (.aload_n 0, 1) := dk_42 (dk_at dksX0_renew_0 2 rfl rfl)
theorem dX0_renew_3 : decode cX0_renew 3 = .ok (.iload_n 1, 1) := dk_27 (dk_at dksX0_renew_0 3 rfl rfl)
theorem dX0_renew_4 : decode cX0_renew 4 = .ok (.iload_n 2, 1) := dk_28 (dk_at dksX0_renew_0 4 rfl rfl)
theorem dX0_renew_5 : decode cX0_renew 5 = .ok (.invokevirtual 94, 3) := dk_182 0 94 (dk_at dksX0_renew_0 5 rfl rfl)
theorem dX0_renew_8 : decode cX0_renew 8 = .ok (.i2l, 1) := dk_133 (dk_at dksX0_renew_0 8 rfl rfl)
theorem dX0_renew_9 : decode cX0_renew 9 = .ok (.lastore, 1) := dk_80 (dk_at dksX0_renew_0 9 rfl rfl)
theorem dX0_renew_10 : decode cX0_renew 10 = .ok (.goto 15, 3) := dk_167 0 15 (dk_at dksX0_renew_0 10 rfl rfl)
theorem dX0_renew_13 : decode cX0_renew 13 = .ok (.astore 4, 2) := dk_58 4 (dk_at dksX0_renew_0 13 rfl rfl)
theorem dX0_renew_15 : decode cX0_renew 15 = .ok (.iconst 1, 1) := dk_4 (dk_at dksX0_renew_0 15 rfl rfl)
theorem dX0_renew_16 : decode cX0_renew 16 = .ok (.ireturn, 1) := dk_172 (dk_at dksX0_renew_0 16 rfl rfl)
theorem dX0_renew_17 : decode cX0_renew 17 = .ok (.astore 4, 2) := dk_58 4 (dk_at dksX0_renew_0 17 rfl rfl)
theorem dX0_renew_19 : decode cX0_renew 19 = .ok (.iconst 2, 1) := dk_5 (dk_at dksX0_renew_0 19 rfl rfl)
theorem dX0_renew_20 : decode cX0_renew 20 = .ok (.ireturn, 1) := dk_172 (dk_at dksX0_renew_0 20 rfl rfl)
theorem dX0_renew_21 : decode cX0_renew 21 = .ok (.astore 4, 2) := dk_58 4 (dk_at dksX0_renew_0 21 rfl rfl)
theorem dX0_renew_23 : decode cX0_renew 23 = .ok (.iconst 3, 1) := dk_6 (dk_at dksX0_renew_0 23 rfl rfl)
theorem dX0_renew_24 : decode cX0_renew 24 = .ok (.ireturn, 1) := dk_172 (dk_at dksX0_renew_1 0 rfl rfl)
theorem dX0_renew_25 : decode cX0_renew 25 = .ok (.iconst 0, 1) := dk_3 (dk_at dksX0_renew_1 1 rfl rfl)
theorem dX0_renew_26 : decode cX0_renew 26 = .ok (.ireturn, 1) := dk_172 (dk_at dksX0_renew_1 2 rfl rfl)
abbrev cX0_isLet : ByteArray := method_28_code
def yX0_isLet : MethodName := ⟨RX0, "isLet", "(LBenchBroker;I[J)I"⟩
def dkwX0_isLet_0 : List UInt8 := [44, 3, 42, 27, 182, 0, 97, 153, 0, 7, 10, 167, 0, 4, 9, 80, 167, 0, 6, 78, 4, 172, 3, 172]
abbrev dktX0_isLet_0 : List UInt8 := dkwX0_isLet_0 ++ []
theorem dksX0_isLet_0 : cX0_isLet.data.toList.drop 0 = dktX0_isLet_0 := by decide +kernel
theorem dX0_isLet_0 : decode cX0_isLet 0 = .ok (.aload_n 2, 1) := dk_44 (dk_at dksX0_isLet_0 0 rfl rfl)
theorem dX0_isLet_1 : decode cX0_isLet 1 = .ok (.iconst 0, 1) := dk_3 (dk_at dksX0_isLet_0 1 rfl rfl)
theorem dX0_isLet_2 : decode cX0_isLet 2 = .ok (.aload_n 0, 1) := dk_42 (dk_at dksX0_isLet_0 2 rfl rfl)
theorem dX0_isLet_3 : decode cX0_isLet 3 = .ok (.iload_n 1, 1) := dk_27 (dk_at dksX0_isLet_0 3 rfl rfl)
theorem dX0_isLet_4 : decode cX0_isLet 4 = .ok (.invokevirtual 97, 3) := dk_182 0 97 (dk_at dksX0_isLet_0 4 rfl rfl)
theorem dX0_isLet_7 : decode cX0_isLet 7 = .ok (.ifCond .eq 7, 3) := dk_153 0 7 (dk_at dksX0_isLet_0 7 rfl rfl)
theorem dX0_isLet_10 : decode cX0_isLet 10 = .ok (.lconst 1, 1) := dk_10 (dk_at dksX0_isLet_0 10 rfl rfl)
theorem dX0_isLet_11 : decode cX0_isLet 11 = .ok (.goto 4, 3) := dk_167 0 4 (dk_at dksX0_isLet_0 11 rfl rfl)
theorem dX0_isLet_14 : decode cX0_isLet 14 = .ok (.lconst 0, 1) := dk_9 (dk_at dksX0_isLet_0 14 rfl rfl)
theorem dX0_isLet_15 : decode cX0_isLet 15 = .ok (.lastore, 1) := dk_80 (dk_at dksX0_isLet_0 15 rfl rfl)
theorem dX0_isLet_16 : decode cX0_isLet 16 = .ok (.goto 6, 3) := dk_167 0 6 (dk_at dksX0_isLet_0 16 rfl rfl)
theorem dX0_isLet_19 : decode cX0_isLet 19 = .ok (.astore_n 3, 1) := dk_78 (dk_at dksX0_isLet_0 19 rfl rfl)
theorem dX0_isLet_20 : decode cX0_isLet 20 = .ok (.iconst 1, 1) := dk_4 (dk_at dksX0_isLet_0 20 rfl rfl)
theorem dX0_isLet_21 : decode cX0_isLet 21 = .ok (.ireturn, 1) := dk_172 (dk_at dksX0_isLet_0 21 rfl rfl)
theorem dX0_isLet_22 : decode cX0_isLet 22 = .ok (.iconst 0, 1) := dk_3 (dk_at dksX0_isLet_0 22 rfl rfl)
theorem dX0_isLet_23 : decode cX0_isLet 23 = .ok (.ireturn, 1) := dk_172 (dk_at dksX0_isLet_0 23 rfl rfl)
abbrev cX0_tenantOf : ByteArray := method_29_code
def yX0_tenantOf : MethodName := ⟨RX0, "tenantOf", "(LBenchBroker;I[J)I"⟩
def dkwX0_tenantOf_0 : List UInt8 := [44, 3, 42, 27, 182, 0, 100, 133, 80, 167, 0, 9, 78, 4, 172, 78, 5, 172, 3, 172]
abbrev dktX0_tenantOf_0 : List UInt8 := dkwX0_tenantOf_0 ++ []
theorem dksX0_tenantOf_0 : cX0_tenantOf.data.toList.drop 0 = dktX0_tenantOf_0 := by decide +kernel
theorem dX0_tenantOf_0 : decode cX0_tenantOf 0 = .ok (.aload_n 2, 1) := dk_44 (dk_at dksX0_tenantOf_0 0 rfl rfl)
theorem dX0_tenantOf_1 : decode cX0_tenantOf 1 = .ok (.iconst 0, 1) := dk_3 (dk_at dksX0_tenantOf_0 1 rfl rfl)
theorem dX0_tenantOf_2 : decode cX0_tenantOf 2 = .ok (.aload_n 0, 1) := dk_42 (dk_at dksX0_tenantOf_0 2 rfl rfl)
theorem dX0_tenantOf_3 : decode cX0_tenantOf 3 = .ok (.iload_n 1, 1) := dk_27 (dk_at dksX0_tenantOf_0 3 rfl rfl)
theorem dX0_tenantOf_4 : decode cX0_tenantOf 4 = .ok (.invokevirtual 100, 3) := dk_182 0 100 (dk_at dksX0_tenantOf_0 4 rfl rfl)
theorem dX0_tenantOf_7 : decode cX0_tenantOf 7 = .ok (.i2l, 1) := dk_133 (dk_at dksX0_tenantOf_0 7 rfl rfl)
theorem dX0_tenantOf_8 : decode cX0_tenantOf 8 = .ok (.lastore, 1) := dk_80 (dk_at dksX0_tenantOf_0 8 rfl rfl)
theorem dX0_tenantOf_9 : decode cX0_tenantOf 9 = .ok (.goto 9, 3) := dk_167 0 9 (dk_at dksX0_tenantOf_0 9 rfl rfl)
theorem dX0_tenantOf_12 : decode cX0_tenantOf 12 = .ok (.astore_n 3, 1) := dk_78 (dk_at dksX0_tenantOf_0 12 rfl rfl)
theorem dX0_tenantOf_13 : decode cX0_tenantOf 13 = .ok (.iconst 1, 1) := dk_4 (dk_at dksX0_tenantOf_0 13 rfl rfl)
theorem dX0_tenantOf_14 : decode cX0_tenantOf 14 = .ok (.ireturn, 1) := dk_172 (dk_at dksX0_tenantOf_0 14 rfl rfl)
theorem dX0_tenantOf_15 : decode cX0_tenantOf 15 = .ok (.astore_n 3, 1) := dk_78 (dk_at dksX0_tenantOf_0 15 rfl rfl)
theorem dX0_tenantOf_16 : decode cX0_tenantOf 16 = .ok (.iconst 2, 1) := dk_5 (dk_at dksX0_tenantOf_0 16 rfl rfl)
theorem dX0_tenantOf_17 : decode cX0_tenantOf 17 = .ok (.ireturn, 1) := dk_172 (dk_at dksX0_tenantOf_0 17 rfl rfl)
theorem dX0_tenantOf_18 : decode cX0_tenantOf 18 = .ok (.iconst 0, 1) := dk_3 (dk_at dksX0_tenantOf_0 18 rfl rfl)
theorem dX0_tenantOf_19 : decode cX0_tenantOf 19 = .ok (.ireturn, 1) := dk_172 (dk_at dksX0_tenantOf_0 19 rfl rfl)
abbrev cX0_depositOf : ByteArray := method_30_code
def yX0_depositOf : MethodName := ⟨RX0, "depositOf", "(LBenchBroker;I[J)I"⟩
def dkwX0_depositOf_0 : List UInt8 := [44, 3, 42, 27, 182, 0, 103, 133, 80, 167, 0, 9, 78, 4, 172, 78, 5, 172, 3, 172]
abbrev dktX0_depositOf_0 : List UInt8 := dkwX0_depositOf_0 ++ []
theorem dksX0_depositOf_0 : cX0_depositOf.data.toList.drop 0 = dktX0_depositOf_0 := by decide +kernel
theorem dX0_depositOf_0 : decode cX0_depositOf 0 = .ok (.aload_n 2, 1) := dk_44 (dk_at dksX0_depositOf_0 0 rfl rfl)
theorem dX0_depositOf_1 : decode cX0_depositOf 1 = .ok (.iconst 0, 1) := dk_3 (dk_at dksX0_depositOf_0 1 rfl rfl)
theorem dX0_depositOf_2 : decode cX0_depositOf 2 = .ok (.aload_n 0, 1) := dk_42 (dk_at dksX0_depositOf_0 2 rfl rfl)
theorem dX0_depositOf_3 : decode cX0_depositOf 3 = .ok (.iload_n 1, 1) := dk_27 (dk_at dksX0_depositOf_0 3 rfl rfl)
theorem dX0_depositOf_4 : decode cX0_depositOf 4 = .ok (.invokevirtual 103, 3) := dk_182 0 103 (dk_at dksX0_depositOf_0 4 rfl rfl)
theorem dX0_depositOf_7 : decode cX0_depositOf 7 = .ok (.i2l, 1) := dk_133 (dk_at dksX0_depositOf_0 7 rfl rfl)
theorem dX0_depositOf_8 : decode cX0_depositOf 8 = .ok (.lastore, 1) := dk_80 (dk_at dksX0_depositOf_0 8 rfl rfl)
theorem dX0_depositOf_9 : decode cX0_depositOf 9 = .ok (.goto 9, 3) := dk_167 0 9 (dk_at dksX0_depositOf_0 9 rfl rfl)
theorem dX0_depositOf_12 : decode cX0_depositOf 12 = .ok (.astore_n 3, 1) := dk_78 (dk_at dksX0_depositOf_0 12 rfl rfl)
theorem dX0_depositOf_13 : decode cX0_depositOf 13 = .ok (.iconst 1, 1) := dk_4 (dk_at dksX0_depositOf_0 13 rfl rfl)
theorem dX0_depositOf_14 : decode cX0_depositOf 14 = .ok (.ireturn, 1) := dk_172 (dk_at dksX0_depositOf_0 14 rfl rfl)
theorem dX0_depositOf_15 : decode cX0_depositOf 15 = .ok (.astore_n 3, 1) := dk_78 (dk_at dksX0_depositOf_0 15 rfl rfl)
theorem dX0_depositOf_16 : decode cX0_depositOf 16 = .ok (.iconst 2, 1) := dk_5 (dk_at dksX0_depositOf_0 16 rfl rfl)
theorem dX0_depositOf_17 : decode cX0_depositOf 17 = .ok (.ireturn, 1) := dk_172 (dk_at dksX0_depositOf_0 17 rfl rfl)
theorem dX0_depositOf_18 : decode cX0_depositOf 18 = .ok (.iconst 0, 1) := dk_3 (dk_at dksX0_depositOf_0 18 rfl rfl)
theorem dX0_depositOf_19 : decode cX0_depositOf 19 = .ok (.ireturn, 1) := dk_172 (dk_at dksX0_depositOf_0 19 rfl rfl)
abbrev cX0_monthsLeft : ByteArray := method_31_code
def yX0_monthsLeft : MethodName := ⟨RX0, "monthsLeft", "(LBenchBroker;I[J)I"⟩
def dkwX0_monthsLeft_0 : List UInt8 := [44, 3, 42, 27, 182, 0, 106, 133, 80, 167, 0, 9, 78, 4, 172, 78, 5, 172, 3, 172]
abbrev dktX0_monthsLeft_0 : List UInt8 := dkwX0_monthsLeft_0 ++ []
theorem dksX0_monthsLeft_0 : cX0_monthsLeft.data.toList.drop 0 = dktX0_monthsLeft_0 := by decide +kernel
theorem dX0_monthsLeft_0 : decode cX0_monthsLeft 0 = .ok (.aload_n 2, 1) := dk_44 (dk_at dksX0_monthsLeft_0 0 rfl rfl)
theorem dX0_monthsLeft_1 : decode cX0_monthsLeft 1 = .ok (.iconst 0, 1) := dk_3 (dk_at dksX0_monthsLeft_0 1 rfl rfl)
theorem dX0_monthsLeft_2 : decode cX0_monthsLeft 2 = .ok (.aload_n 0, 1) := dk_42 (dk_at dksX0_monthsLeft_0 2 rfl rfl)
theorem dX0_monthsLeft_3 : decode cX0_monthsLeft 3 = .ok (.iload_n 1, 1) := dk_27 (dk_at dksX0_monthsLeft_0 3 rfl rfl)
theorem dX0_monthsLeft_4 : decode cX0_monthsLeft 4 = .ok (.invokevirtual 106, 3) := dk_182 0 106 (dk_at dksX0_monthsLeft_0 4 rfl rfl)
theorem dX0_monthsLeft_7 : decode cX0_monthsLeft 7 = .ok (.i2l, 1) := dk_133 (dk_at dksX0_monthsLeft_0 7 rfl rfl)
theorem dX0_monthsLeft_8 : decode cX0_monthsLeft 8 = .ok (.lastore, 1) := dk_80 (dk_at dksX0_monthsLeft_0 8 rfl rfl)
theorem dX0_monthsLeft_9 : decode cX0_monthsLeft 9 = .ok (.goto 9, 3) := dk_167 0 9 (dk_at dksX0_monthsLeft_0 9 rfl rfl)
theorem dX0_monthsLeft_12 : decode cX0_monthsLeft 12 = .ok (.astore_n 3, 1) := dk_78 (dk_at dksX0_monthsLeft_0 12 rfl rfl)
theorem dX0_monthsLeft_13 : decode cX0_monthsLeft 13 = .ok (.iconst 1, 1) := dk_4 (dk_at dksX0_monthsLeft_0 13 rfl rfl)
theorem dX0_monthsLeft_14 : decode cX0_monthsLeft 14 = .ok (.ireturn, 1) := dk_172 (dk_at dksX0_monthsLeft_0 14 rfl rfl)
theorem dX0_monthsLeft_15 : decode cX0_monthsLeft 15 = .ok (.astore_n 3, 1) := dk_78 (dk_at dksX0_monthsLeft_0 15 rfl rfl)
theorem dX0_monthsLeft_16 : decode cX0_monthsLeft 16 = .ok (.iconst 2, 1) := dk_5 (dk_at dksX0_monthsLeft_0 16 rfl rfl)
theorem dX0_monthsLeft_17 : decode cX0_monthsLeft 17 = .ok (.ireturn, 1) := dk_172 (dk_at dksX0_monthsLeft_0 17 rfl rfl)
theorem dX0_monthsLeft_18 : decode cX0_monthsLeft 18 = .ok (.iconst 0, 1) := dk_3 (dk_at dksX0_monthsLeft_0 18 rfl rfl)
theorem dX0_monthsLeft_19 : decode cX0_monthsLeft 19 = .ok (.ireturn, 1) := dk_172 (dk_at dksX0_monthsLeft_0 19 rfl rfl)
abbrev cX0_defaultMonth : ByteArray := method_32_code
def yX0_defaultMonth : MethodName := ⟨RX0, "defaultMonth", "(LBenchBroker;I[J)I"⟩
def dkwX0_defaultMonth_0 : List UInt8 := [44, 3, 42, 27, 182, 0, 109, 133, 80, 167, 0, 9, 78, 4, 172, 78, 5, 172, 3, 172]
abbrev dktX0_defaultMonth_0 : List UInt8 := dkwX0_defaultMonth_0 ++ []
theorem dksX0_defaultMonth_0 : cX0_defaultMonth.data.toList.drop 0 = dktX0_defaultMonth_0 := by decide +kernel
theorem dX0_defaultMonth_0 : decode cX0_defaultMonth 0 = .ok (.aload_n 2, 1) := dk_44 (dk_at dksX0_defaultMonth_0 0 rfl rfl)
theorem dX0_defaultMonth_1 : decode cX0_defaultMonth 1 = .ok (.iconst 0, 1) := dk_3 (dk_at dksX0_defaultMonth_0 1 rfl rfl)
theorem dX0_defaultMonth_2 : decode cX0_defaultMonth 2 = .ok (.aload_n 0, 1) := dk_42 (dk_at dksX0_defaultMonth_0 2 rfl rfl)
theorem dX0_defaultMonth_3 : decode cX0_defaultMonth 3 = .ok (.iload_n 1, 1) := dk_27 (dk_at dksX0_defaultMonth_0 3 rfl rfl)
theorem dX0_defaultMonth_4 : decode cX0_defaultMonth 4 = .ok (.invokevirtual 109, 3) := dk_182 0 109 (dk_at dksX0_defaultMonth_0 4 rfl rfl)
theorem dX0_defaultMonth_7 : decode cX0_defaultMonth 7 = .ok (.i2l, 1) := dk_133 (dk_at dksX0_defaultMonth_0 7 rfl rfl)
theorem dX0_defaultMonth_8 : decode cX0_defaultMonth 8 = .ok (.lastore, 1) := dk_80 (dk_at dksX0_defaultMonth_0 8 rfl rfl)
theorem dX0_defaultMonth_9 : decode cX0_defaultMonth 9 = .ok (.goto 9, 3) := dk_167 0 9 (dk_at dksX0_defaultMonth_0 9 rfl rfl)
theorem dX0_defaultMonth_12 : decode cX0_defaultMonth 12 = .ok (.astore_n 3, 1) := dk_78 (dk_at dksX0_defaultMonth_0 12 rfl rfl)
theorem dX0_defaultMonth_13 : decode cX0_defaultMonth 13 = .ok (.iconst 1, 1) := dk_4 (dk_at dksX0_defaultMonth_0 13 rfl rfl)
theorem dX0_defaultMonth_14 : decode cX0_defaultMonth 14 = .ok (.ireturn, 1) := dk_172 (dk_at dksX0_defaultMonth_0 14 rfl rfl)
theorem dX0_defaultMonth_15 : decode cX0_defaultMonth 15 = .ok (.astore_n 3, 1) := dk_78 (dk_at dksX0_defaultMonth_0 15 rfl rfl)
theorem dX0_defaultMonth_16 : decode cX0_defaultMonth 16 = .ok (.iconst 2, 1) := dk_5 (dk_at dksX0_defaultMonth_0 16 rfl rfl)
theorem dX0_defaultMonth_17 : decode cX0_defaultMonth 17 = .ok (.ireturn, 1) := dk_172 (dk_at dksX0_defaultMonth_0 17 rfl rfl)
theorem dX0_defaultMonth_18 : decode cX0_defaultMonth 18 = .ok (.iconst 0, 1) := dk_3 (dk_at dksX0_defaultMonth_0 18 rfl rfl)
theorem dX0_defaultMonth_19 : decode cX0_defaultMonth 19 = .ok (.ireturn, 1) := dk_172 (dk_at dksX0_defaultMonth_0 19 rfl rfl)
abbrev cX0_passMonths : ByteArray := method_33_code
def yX0_passMonths : MethodName := ⟨RX0, "passMonths", "(LBenchBroker;I[J)I"⟩
def dkwX0_passMonths_0 : List UInt8 := [44, 3, 42, 27, 182, 0, 112, 133, 80, 167, 0, 6, 78, 4, 172, 3, 172]
abbrev dktX0_passMonths_0 : List UInt8 := dkwX0_passMonths_0 ++ []
theorem dksX0_passMonths_0 : cX0_passMonths.data.toList.drop 0 = dktX0_passMonths_0 := by decide +kernel
theorem dX0_passMonths_0 : decode cX0_passMonths 0 = .ok (.aload_n 2, 1) := dk_44 (dk_at dksX0_passMonths_0 0 rfl rfl)
theorem dX0_passMonths_1 : decode cX0_passMonths 1 = .ok (.iconst 0, 1) := dk_3 (dk_at dksX0_passMonths_0 1 rfl rfl)
theorem dX0_passMonths_2 : decode cX0_passMonths 2 = .ok (.aload_n 0, 1) := dk_42 (dk_at dksX0_passMonths_0 2 rfl rfl)
theorem dX0_passMonths_3 : decode cX0_passMonths 3 = .ok (.iload_n 1, 1) := dk_27 (dk_at dksX0_passMonths_0 3 rfl rfl)
theorem dX0_passMonths_4 : decode cX0_passMonths 4 = .ok (.invokevirtual 112, 3) := dk_182 0 112 (dk_at dksX0_passMonths_0 4 rfl rfl)
theorem dX0_passMonths_7 : decode cX0_passMonths 7 = .ok (.i2l, 1) := dk_133 (dk_at dksX0_passMonths_0 7 rfl rfl)
theorem dX0_passMonths_8 : decode cX0_passMonths 8 = .ok (.lastore, 1) := dk_80 (dk_at dksX0_passMonths_0 8 rfl rfl)
theorem dX0_passMonths_9 : decode cX0_passMonths 9 = .ok (.goto 6, 3) := dk_167 0 6 (dk_at dksX0_passMonths_0 9 rfl rfl)
theorem dX0_passMonths_12 : decode cX0_passMonths 12 = .ok (.astore_n 3, 1) := dk_78 (dk_at dksX0_passMonths_0 12 rfl rfl)
theorem dX0_passMonths_13 : decode cX0_passMonths 13 = .ok (.iconst 1, 1) := dk_4 (dk_at dksX0_passMonths_0 13 rfl rfl)
theorem dX0_passMonths_14 : decode cX0_passMonths 14 = .ok (.ireturn, 1) := dk_172 (dk_at dksX0_passMonths_0 14 rfl rfl)
theorem dX0_passMonths_15 : decode cX0_passMonths 15 = .ok (.iconst 0, 1) := dk_3 (dk_at dksX0_passMonths_0 15 rfl rfl)
theorem dX0_passMonths_16 : decode cX0_passMonths 16 = .ok (.ireturn, 1) := dk_172 (dk_at dksX0_passMonths_0 16 rfl rfl)
abbrev cX0_incomeWithin : ByteArray := method_34_code
def yX0_incomeWithin : MethodName := ⟨RX0, "incomeWithin", "(LBenchBroker;I[J)I"⟩
def dkwX0_incomeWithin_0 : List UInt8 := [44, 3, 42, 27, 182, 0, 115, 133, 80, 167, 0, 6, 78, 4, 172, 3, 172]
abbrev dktX0_incomeWithin_0 : List UInt8 := dkwX0_incomeWithin_0 ++ []
theorem dksX0_incomeWithin_0 : cX0_incomeWithin.data.toList.drop 0 = dktX0_incomeWithin_0 := by decide +kernel
theorem dX0_incomeWithin_0 : decode cX0_incomeWithin 0 = .ok (.aload_n 2, 1) := dk_44 (dk_at dksX0_incomeWithin_0 0 rfl rfl)
theorem dX0_incomeWithin_1 : decode cX0_incomeWithin 1 = .ok (.iconst 0, 1) := dk_3 (dk_at dksX0_incomeWithin_0 1 rfl rfl)
theorem dX0_incomeWithin_2 : decode cX0_incomeWithin 2 = .ok (.aload_n 0, 1) := dk_42 (dk_at dksX0_incomeWithin_0 2 rfl rfl)
theorem dX0_incomeWithin_3 : decode cX0_incomeWithin 3 = .ok (.iload_n 1, 1) := dk_27 (dk_at dksX0_incomeWithin_0 3 rfl rfl)
theorem dX0_incomeWithin_4 : decode cX0_incomeWithin 4 = .ok (.invokevirtual 115, 3) := dk_182 0 115 (dk_at dksX0_incomeWithin_0 4 rfl rfl)
theorem dX0_incomeWithin_7 : decode cX0_incomeWithin 7 = .ok (.i2l, 1) := dk_133 (dk_at dksX0_incomeWithin_0 7 rfl rfl)
theorem dX0_incomeWithin_8 : decode cX0_incomeWithin 8 = .ok (.lastore, 1) := dk_80 (dk_at dksX0_incomeWithin_0 8 rfl rfl)
theorem dX0_incomeWithin_9 : decode cX0_incomeWithin 9 = .ok (.goto 6, 3) := dk_167 0 6 (dk_at dksX0_incomeWithin_0 9 rfl rfl)
theorem dX0_incomeWithin_12 : decode cX0_incomeWithin 12 = .ok (.astore_n 3, 1) := dk_78 (dk_at dksX0_incomeWithin_0 12 rfl rfl)
theorem dX0_incomeWithin_13 : decode cX0_incomeWithin 13 = .ok (.iconst 1, 1) := dk_4 (dk_at dksX0_incomeWithin_0 13 rfl rfl)
theorem dX0_incomeWithin_14 : decode cX0_incomeWithin 14 = .ok (.ireturn, 1) := dk_172 (dk_at dksX0_incomeWithin_0 14 rfl rfl)
theorem dX0_incomeWithin_15 : decode cX0_incomeWithin 15 = .ok (.iconst 0, 1) := dk_3 (dk_at dksX0_incomeWithin_0 15 rfl rfl)
theorem dX0_incomeWithin_16 : decode cX0_incomeWithin 16 = .ok (.ireturn, 1) := dk_172 (dk_at dksX0_incomeWithin_0 16 rfl rfl)
abbrev cX0_incomeByLeases : ByteArray := method_35_code
def yX0_incomeByLeases : MethodName := ⟨RX0, "incomeByLeases", "(LBenchBroker;I[J)I"⟩
def dkwX0_incomeByLeases_0 : List UInt8 := [44, 3, 42, 27, 182, 0, 118, 133, 80, 167, 0, 6, 78, 4, 172, 3, 172]
abbrev dktX0_incomeByLeases_0 : List UInt8 := dkwX0_incomeByLeases_0 ++ []
theorem dksX0_incomeByLeases_0 : cX0_incomeByLeases.data.toList.drop 0 = dktX0_incomeByLeases_0 := by decide +kernel
theorem dX0_incomeByLeases_0 : decode cX0_incomeByLeases 0 = .ok (.aload_n 2, 1) := dk_44 (dk_at dksX0_incomeByLeases_0 0 rfl rfl)
theorem dX0_incomeByLeases_1 : decode cX0_incomeByLeases 1 = .ok (.iconst 0, 1) := dk_3 (dk_at dksX0_incomeByLeases_0 1 rfl rfl)
theorem dX0_incomeByLeases_2 : decode cX0_incomeByLeases 2 = .ok (.aload_n 0, 1) := dk_42 (dk_at dksX0_incomeByLeases_0 2 rfl rfl)
theorem dX0_incomeByLeases_3 : decode cX0_incomeByLeases 3 = .ok (.iload_n 1, 1) := dk_27 (dk_at dksX0_incomeByLeases_0 3 rfl rfl)
theorem dX0_incomeByLeases_4 : decode cX0_incomeByLeases 4 = .ok (.invokevirtual 118, 3) := dk_182 0 118 (dk_at dksX0_incomeByLeases_0 4 rfl rfl)
theorem dX0_incomeByLeases_7 : decode cX0_incomeByLeases 7 = .ok (.i2l, 1) := dk_133 (dk_at dksX0_incomeByLeases_0 7 rfl rfl)
theorem dX0_incomeByLeases_8 : decode cX0_incomeByLeases 8 = .ok (.lastore, 1) := dk_80 (dk_at dksX0_incomeByLeases_0 8 rfl rfl)
theorem dX0_incomeByLeases_9 : decode cX0_incomeByLeases 9 = .ok (.goto 6, 3) := dk_167 0 6 (dk_at dksX0_incomeByLeases_0 9 rfl rfl)
theorem dX0_incomeByLeases_12 : decode cX0_incomeByLeases 12 = .ok (.astore_n 3, 1) := dk_78 (dk_at dksX0_incomeByLeases_0 12 rfl rfl)
theorem dX0_incomeByLeases_13 : decode cX0_incomeByLeases 13 = .ok (.iconst 1, 1) := dk_4 (dk_at dksX0_incomeByLeases_0 13 rfl rfl)
theorem dX0_incomeByLeases_14 : decode cX0_incomeByLeases 14 = .ok (.ireturn, 1) := dk_172 (dk_at dksX0_incomeByLeases_0 14 rfl rfl)
theorem dX0_incomeByLeases_15 : decode cX0_incomeByLeases 15 = .ok (.iconst 0, 1) := dk_3 (dk_at dksX0_incomeByLeases_0 15 rfl rfl)
theorem dX0_incomeByLeases_16 : decode cX0_incomeByLeases 16 = .ok (.ireturn, 1) := dk_172 (dk_at dksX0_incomeByLeases_0 16 rfl rfl)
abbrev cX0_benchByRent : ByteArray := method_36_code
def yX0_benchByRent : MethodName := ⟨RX0, "benchByRent", "(LBenchBroker;I[J)I"⟩
def dkwX0_benchByRent_0 : List UInt8 := [44, 3, 42, 27, 182, 0, 121, 133, 80, 167, 0, 6, 78, 4, 172, 3, 172]
abbrev dktX0_benchByRent_0 : List UInt8 := dkwX0_benchByRent_0 ++ []
theorem dksX0_benchByRent_0 : cX0_benchByRent.data.toList.drop 0 = dktX0_benchByRent_0 := by decide +kernel
theorem dX0_benchByRent_0 : decode cX0_benchByRent 0 = .ok (.aload_n 2, 1) := dk_44 (dk_at dksX0_benchByRent_0 0 rfl rfl)
theorem dX0_benchByRent_1 : decode cX0_benchByRent 1 = .ok (.iconst 0, 1) := dk_3 (dk_at dksX0_benchByRent_0 1 rfl rfl)
theorem dX0_benchByRent_2 : decode cX0_benchByRent 2 = .ok (.aload_n 0, 1) := dk_42 (dk_at dksX0_benchByRent_0 2 rfl rfl)
theorem dX0_benchByRent_3 : decode cX0_benchByRent 3 = .ok (.iload_n 1, 1) := dk_27 (dk_at dksX0_benchByRent_0 3 rfl rfl)
theorem dX0_benchByRent_4 : decode cX0_benchByRent 4 = .ok (.invokevirtual 121, 3) := dk_182 0 121 (dk_at dksX0_benchByRent_0 4 rfl rfl)
theorem dX0_benchByRent_7 : decode cX0_benchByRent 7 = .ok (.i2l, 1) := dk_133 (dk_at dksX0_benchByRent_0 7 rfl rfl)
theorem dX0_benchByRent_8 : decode cX0_benchByRent 8 = .ok (.lastore, 1) := dk_80 (dk_at dksX0_benchByRent_0 8 rfl rfl)
theorem dX0_benchByRent_9 : decode cX0_benchByRent 9 = .ok (.goto 6, 3) := dk_167 0 6 (dk_at dksX0_benchByRent_0 9 rfl rfl)
theorem dX0_benchByRent_12 : decode cX0_benchByRent 12 = .ok (.astore_n 3, 1) := dk_78 (dk_at dksX0_benchByRent_0 12 rfl rfl)
theorem dX0_benchByRent_13 : decode cX0_benchByRent 13 = .ok (.iconst 1, 1) := dk_4 (dk_at dksX0_benchByRent_0 13 rfl rfl)
theorem dX0_benchByRent_14 : decode cX0_benchByRent 14 = .ok (.ireturn, 1) := dk_172 (dk_at dksX0_benchByRent_0 14 rfl rfl)
theorem dX0_benchByRent_15 : decode cX0_benchByRent 15 = .ok (.iconst 0, 1) := dk_3 (dk_at dksX0_benchByRent_0 15 rfl rfl)
theorem dX0_benchByRent_16 : decode cX0_benchByRent 16 = .ok (.ireturn, 1) := dk_172 (dk_at dksX0_benchByRent_0 16 rfl rfl)
abbrev cX0_tenantByCoins : ByteArray := method_37_code
def yX0_tenantByCoins : MethodName := ⟨RX0, "tenantByCoins", "(LBenchBroker;I[J)I"⟩
def dkwX0_tenantByCoins_0 : List UInt8 := [44, 3, 42, 27, 182, 0, 124, 133, 80, 167, 0, 6, 78, 4, 172, 3, 172]
abbrev dktX0_tenantByCoins_0 : List UInt8 := dkwX0_tenantByCoins_0 ++ []
theorem dksX0_tenantByCoins_0 : cX0_tenantByCoins.data.toList.drop 0 = dktX0_tenantByCoins_0 := by decide +kernel
theorem dX0_tenantByCoins_0 : decode cX0_tenantByCoins 0 = .ok (.aload_n 2, 1) := dk_44 (dk_at dksX0_tenantByCoins_0 0 rfl rfl)
theorem dX0_tenantByCoins_1 : decode cX0_tenantByCoins 1 = .ok (.iconst 0, 1) := dk_3 (dk_at dksX0_tenantByCoins_0 1 rfl rfl)
theorem dX0_tenantByCoins_2 : decode cX0_tenantByCoins 2 = .ok (.aload_n 0, 1) := dk_42 (dk_at dksX0_tenantByCoins_0 2 rfl rfl)
theorem dX0_tenantByCoins_3 : decode cX0_tenantByCoins 3 = .ok (.iload_n 1, 1) := dk_27 (dk_at dksX0_tenantByCoins_0 3 rfl rfl)
theorem dX0_tenantByCoins_4 : decode cX0_tenantByCoins 4 = .ok (.invokevirtual 124, 3) := dk_182 0 124 (dk_at dksX0_tenantByCoins_0 4 rfl rfl)
theorem dX0_tenantByCoins_7 : decode cX0_tenantByCoins 7 = .ok (.i2l, 1) := dk_133 (dk_at dksX0_tenantByCoins_0 7 rfl rfl)
theorem dX0_tenantByCoins_8 : decode cX0_tenantByCoins 8 = .ok (.lastore, 1) := dk_80 (dk_at dksX0_tenantByCoins_0 8 rfl rfl)
theorem dX0_tenantByCoins_9 : decode cX0_tenantByCoins 9 = .ok (.goto 6, 3) := dk_167 0 6 (dk_at dksX0_tenantByCoins_0 9 rfl rfl)
theorem dX0_tenantByCoins_12 : decode cX0_tenantByCoins 12 = .ok (.astore_n 3, 1) := dk_78 (dk_at dksX0_tenantByCoins_0 12 rfl rfl)
theorem dX0_tenantByCoins_13 : decode cX0_tenantByCoins 13 = .ok (.iconst 1, 1) := dk_4 (dk_at dksX0_tenantByCoins_0 13 rfl rfl)
theorem dX0_tenantByCoins_14 : decode cX0_tenantByCoins 14 = .ok (.ireturn, 1) := dk_172 (dk_at dksX0_tenantByCoins_0 14 rfl rfl)
theorem dX0_tenantByCoins_15 : decode cX0_tenantByCoins 15 = .ok (.iconst 0, 1) := dk_3 (dk_at dksX0_tenantByCoins_0 15 rfl rfl)
theorem dX0_tenantByCoins_16 : decode cX0_tenantByCoins 16 = .ok (.ireturn, 1) := dk_172 (dk_at dksX0_tenantByCoins_0 16 rfl rfl)
abbrev cX0_meanRent : ByteArray := method_38_code
def yX0_meanRent : MethodName := ⟨RX0, "meanRent", "(LBenchBroker;[D)I"⟩
def dkwX0_meanRent_0 : List UInt8 := [43, 3, 42, 182, 0, 127, 82, 167, 0, 6, 77, 4, 172, 3, 172]
abbrev dktX0_meanRent_0 : List UInt8 := dkwX0_meanRent_0 ++ []
theorem dksX0_meanRent_0 : cX0_meanRent.data.toList.drop 0 = dktX0_meanRent_0 := by decide +kernel
theorem dX0_meanRent_0 : decode cX0_meanRent 0 = .ok (.aload_n 1, 1) := dk_43 (dk_at dksX0_meanRent_0 0 rfl rfl)
theorem dX0_meanRent_1 : decode cX0_meanRent 1 = .ok (.iconst 0, 1) := dk_3 (dk_at dksX0_meanRent_0 1 rfl rfl)
theorem dX0_meanRent_2 : decode cX0_meanRent 2 = .ok (.aload_n 0, 1) := dk_42 (dk_at dksX0_meanRent_0 2 rfl rfl)
theorem dX0_meanRent_3 : decode cX0_meanRent 3 = .ok (.invokevirtual 127, 3) := dk_182 0 127 (dk_at dksX0_meanRent_0 3 rfl rfl)
theorem dX0_meanRent_6 : decode cX0_meanRent 6 = .ok (.dastore, 1) := dk_82 (dk_at dksX0_meanRent_0 6 rfl rfl)
theorem dX0_meanRent_7 : decode cX0_meanRent 7 = .ok (.goto 6, 3) := dk_167 0 6 (dk_at dksX0_meanRent_0 7 rfl rfl)
theorem dX0_meanRent_10 : decode cX0_meanRent 10 = .ok (.astore_n 2, 1) := dk_77 (dk_at dksX0_meanRent_0 10 rfl rfl)
theorem dX0_meanRent_11 : decode cX0_meanRent 11 = .ok (.iconst 1, 1) := dk_4 (dk_at dksX0_meanRent_0 11 rfl rfl)
theorem dX0_meanRent_12 : decode cX0_meanRent 12 = .ok (.ireturn, 1) := dk_172 (dk_at dksX0_meanRent_0 12 rfl rfl)
theorem dX0_meanRent_13 : decode cX0_meanRent 13 = .ok (.iconst 0, 1) := dk_3 (dk_at dksX0_meanRent_0 13 rfl rfl)
theorem dX0_meanRent_14 : decode cX0_meanRent 14 = .ok (.ireturn, 1) := dk_172 (dk_at dksX0_meanRent_0 14 rfl rfl)
abbrev cX0_letShare : ByteArray := method_39_code
def yX0_letShare : MethodName := ⟨RX0, "letShare", "(LBenchBroker;[D)I"⟩
def dkwX0_letShare_0 : List UInt8 := [43, 3, 42, 182, 0, 133, 141, 82, 167, 0, 6, 77, 4, 172, 3, 172]
abbrev dktX0_letShare_0 : List UInt8 := dkwX0_letShare_0 ++ []
theorem dksX0_letShare_0 : cX0_letShare.data.toList.drop 0 = dktX0_letShare_0 := by decide +kernel
theorem dX0_letShare_0 : decode cX0_letShare 0 = .ok (.aload_n 1, 1) := dk_43 (dk_at dksX0_letShare_0 0 rfl rfl)
theorem dX0_letShare_1 : decode cX0_letShare 1 = .ok (.iconst 0, 1) := dk_3 (dk_at dksX0_letShare_0 1 rfl rfl)
theorem dX0_letShare_2 : decode cX0_letShare 2 = .ok (.aload_n 0, 1) := dk_42 (dk_at dksX0_letShare_0 2 rfl rfl)
theorem dX0_letShare_3 : decode cX0_letShare 3 = .ok (.invokevirtual 133, 3) := dk_182 0 133 (dk_at dksX0_letShare_0 3 rfl rfl)
theorem dX0_letShare_6 : decode cX0_letShare 6 = .ok (.f2d, 1) := dk_141 (dk_at dksX0_letShare_0 6 rfl rfl)
theorem dX0_letShare_7 : decode cX0_letShare 7 = .ok (.dastore, 1) := dk_82 (dk_at dksX0_letShare_0 7 rfl rfl)
theorem dX0_letShare_8 : decode cX0_letShare 8 = .ok (.goto 6, 3) := dk_167 0 6 (dk_at dksX0_letShare_0 8 rfl rfl)
theorem dX0_letShare_11 : decode cX0_letShare 11 = .ok (.astore_n 2, 1) := dk_77 (dk_at dksX0_letShare_0 11 rfl rfl)
theorem dX0_letShare_12 : decode cX0_letShare 12 = .ok (.iconst 1, 1) := dk_4 (dk_at dksX0_letShare_0 12 rfl rfl)
theorem dX0_letShare_13 : decode cX0_letShare 13 = .ok (.ireturn, 1) := dk_172 (dk_at dksX0_letShare_0 13 rfl rfl)
theorem dX0_letShare_14 : decode cX0_letShare 14 = .ok (.iconst 0, 1) := dk_3 (dk_at dksX0_letShare_0 14 rfl rfl)
theorem dX0_letShare_15 : decode cX0_letShare 15 = .ok (.ireturn, 1) := dk_172 (dk_at dksX0_letShare_0 15 rfl rfl)
abbrev cX0_writeBench : ByteArray := method_40_code
def yX0_writeBench : MethodName := ⟨RX0, "writeBench", "(LBenchBroker;I[J)I"⟩
def dkwX0_writeBench_0 : List UInt8 := [44, 3, 42, 27, 182, 0, 137, 133, 80, 167, 0, 6, 78, 4, 172, 3, 172]
abbrev dktX0_writeBench_0 : List UInt8 := dkwX0_writeBench_0 ++ []
theorem dksX0_writeBench_0 : cX0_writeBench.data.toList.drop 0 = dktX0_writeBench_0 := by decide +kernel
theorem dX0_writeBench_0 : decode cX0_writeBench 0 = .ok (.aload_n 2, 1) := dk_44 (dk_at dksX0_writeBench_0 0 rfl rfl)
theorem dX0_writeBench_1 : decode cX0_writeBench 1 = .ok (.iconst 0, 1) := dk_3 (dk_at dksX0_writeBench_0 1 rfl rfl)
theorem dX0_writeBench_2 : decode cX0_writeBench 2 = .ok (.aload_n 0, 1) := dk_42 (dk_at dksX0_writeBench_0 2 rfl rfl)
theorem dX0_writeBench_3 : decode cX0_writeBench 3 = .ok (.iload_n 1, 1) := dk_27 (dk_at dksX0_writeBench_0 3 rfl rfl)
theorem dX0_writeBench_4 : decode cX0_writeBench 4 = .ok (.invokevirtual 137, 3) := dk_182 0 137 (dk_at dksX0_writeBench_0 4 rfl rfl)
theorem dX0_writeBench_7 : decode cX0_writeBench 7 = .ok (.i2l, 1) := dk_133 (dk_at dksX0_writeBench_0 7 rfl rfl)
theorem dX0_writeBench_8 : decode cX0_writeBench 8 = .ok (.lastore, 1) := dk_80 (dk_at dksX0_writeBench_0 8 rfl rfl)
theorem dX0_writeBench_9 : decode cX0_writeBench 9 = .ok (.goto 6, 3) := dk_167 0 6 (dk_at dksX0_writeBench_0 9 rfl rfl)
theorem dX0_writeBench_12 : decode cX0_writeBench 12 = .ok (.astore_n 3, 1) := dk_78 (dk_at dksX0_writeBench_0 12 rfl rfl)
theorem dX0_writeBench_13 : decode cX0_writeBench 13 = .ok (.iconst 1, 1) := dk_4 (dk_at dksX0_writeBench_0 13 rfl rfl)
theorem dX0_writeBench_14 : decode cX0_writeBench 14 = .ok (.ireturn, 1) := dk_172 (dk_at dksX0_writeBench_0 14 rfl rfl)
theorem dX0_writeBench_15 : decode cX0_writeBench 15 = .ok (.iconst 0, 1) := dk_3 (dk_at dksX0_writeBench_0 15 rfl rfl)
theorem dX0_writeBench_16 : decode cX0_writeBench 16 = .ok (.ireturn, 1) := dk_172 (dk_at dksX0_writeBench_0 16 rfl rfl)
abbrev cX0_writeRow : ByteArray := method_41_code
def yX0_writeRow : MethodName := ⟨RX0, "writeRow", "(LBenchBroker;I[J)I"⟩
def dkwX0_writeRow_0 : List UInt8 := [44, 3, 42, 27, 182, 0, 140, 133, 80, 167, 0, 6, 78, 4, 172, 3, 172]
abbrev dktX0_writeRow_0 : List UInt8 := dkwX0_writeRow_0 ++ []
theorem dksX0_writeRow_0 : cX0_writeRow.data.toList.drop 0 = dktX0_writeRow_0 := by decide +kernel
theorem dX0_writeRow_0 : decode cX0_writeRow 0 = .ok (.aload_n 2, 1) := dk_44 (dk_at dksX0_writeRow_0 0 rfl rfl)
theorem dX0_writeRow_1 : decode cX0_writeRow 1 = .ok (.iconst 0, 1) := dk_3 (dk_at dksX0_writeRow_0 1 rfl rfl)
theorem dX0_writeRow_2 : decode cX0_writeRow 2 = .ok (.aload_n 0, 1) := dk_42 (dk_at dksX0_writeRow_0 2 rfl rfl)
theorem dX0_writeRow_3 : decode cX0_writeRow 3 = .ok (.iload_n 1, 1) := dk_27 (dk_at dksX0_writeRow_0 3 rfl rfl)
theorem dX0_writeRow_4 : decode cX0_writeRow 4 = .ok (.invokevirtual 140, 3) := dk_182 0 140 (dk_at dksX0_writeRow_0 4 rfl rfl)
theorem dX0_writeRow_7 : decode cX0_writeRow 7 = .ok (.i2l, 1) := dk_133 (dk_at dksX0_writeRow_0 7 rfl rfl)
theorem dX0_writeRow_8 : decode cX0_writeRow 8 = .ok (.lastore, 1) := dk_80 (dk_at dksX0_writeRow_0 8 rfl rfl)
theorem dX0_writeRow_9 : decode cX0_writeRow 9 = .ok (.goto 6, 3) := dk_167 0 6 (dk_at dksX0_writeRow_0 9 rfl rfl)
theorem dX0_writeRow_12 : decode cX0_writeRow 12 = .ok (.astore_n 3, 1) := dk_78 (dk_at dksX0_writeRow_0 12 rfl rfl)
theorem dX0_writeRow_13 : decode cX0_writeRow 13 = .ok (.iconst 1, 1) := dk_4 (dk_at dksX0_writeRow_0 13 rfl rfl)
theorem dX0_writeRow_14 : decode cX0_writeRow 14 = .ok (.ireturn, 1) := dk_172 (dk_at dksX0_writeRow_0 14 rfl rfl)
theorem dX0_writeRow_15 : decode cX0_writeRow 15 = .ok (.iconst 0, 1) := dk_3 (dk_at dksX0_writeRow_0 15 rfl rfl)
theorem dX0_writeRow_16 : decode cX0_writeRow 16 = .ok (.ireturn, 1) := dk_172 (dk_at dksX0_writeRow_0 16 rfl rfl)
abbrev cX0_outputAt : ByteArray := method_42_code
def yX0_outputAt : MethodName := ⟨RX0, "outputAt", "(LBenchBroker;I[J)I"⟩
def dkwX0_outputAt_0 : List UInt8 := [44, 3, 42, 27, 182, 0, 143, 133, 80, 167, 0, 6, 78, 4, 172, 3, 172]
abbrev dktX0_outputAt_0 : List UInt8 := dkwX0_outputAt_0 ++ []
theorem dksX0_outputAt_0 : cX0_outputAt.data.toList.drop 0 = dktX0_outputAt_0 := by decide +kernel
theorem dX0_outputAt_0 : decode cX0_outputAt 0 = .ok (.aload_n 2, 1) := dk_44 (dk_at dksX0_outputAt_0 0 rfl rfl)
theorem dX0_outputAt_1 : decode cX0_outputAt 1 = .ok (.iconst 0, 1) := dk_3 (dk_at dksX0_outputAt_0 1 rfl rfl)
theorem dX0_outputAt_2 : decode cX0_outputAt 2 = .ok (.aload_n 0, 1) := dk_42 (dk_at dksX0_outputAt_0 2 rfl rfl)
theorem dX0_outputAt_3 : decode cX0_outputAt 3 = .ok (.iload_n 1, 1) := dk_27 (dk_at dksX0_outputAt_0 3 rfl rfl)
theorem dX0_outputAt_4 : decode cX0_outputAt 4 = .ok (.invokevirtual 143, 3) := dk_182 0 143 (dk_at dksX0_outputAt_0 4 rfl rfl)
theorem dX0_outputAt_7 : decode cX0_outputAt 7 = .ok (.i2l, 1) := dk_133 (dk_at dksX0_outputAt_0 7 rfl rfl)
theorem dX0_outputAt_8 : decode cX0_outputAt 8 = .ok (.lastore, 1) := dk_80 (dk_at dksX0_outputAt_0 8 rfl rfl)
theorem dX0_outputAt_9 : decode cX0_outputAt 9 = .ok (.goto 6, 3) := dk_167 0 6 (dk_at dksX0_outputAt_0 9 rfl rfl)
theorem dX0_outputAt_12 : decode cX0_outputAt 12 = .ok (.astore_n 3, 1) := dk_78 (dk_at dksX0_outputAt_0 12 rfl rfl)
theorem dX0_outputAt_13 : decode cX0_outputAt 13 = .ok (.iconst 1, 1) := dk_4 (dk_at dksX0_outputAt_0 13 rfl rfl)
theorem dX0_outputAt_14 : decode cX0_outputAt 14 = .ok (.ireturn, 1) := dk_172 (dk_at dksX0_outputAt_0 14 rfl rfl)
theorem dX0_outputAt_15 : decode cX0_outputAt 15 = .ok (.iconst 0, 1) := dk_3 (dk_at dksX0_outputAt_0 15 rfl rfl)
theorem dX0_outputAt_16 : decode cX0_outputAt 16 = .ok (.ireturn, 1) := dk_172 (dk_at dksX0_outputAt_0 16 rfl rfl)
abbrev cX0_appendInput : ByteArray := method_43_code
def yX0_appendInput : MethodName := ⟨RX0, "appendInput", "(LBenchBroker;C[J)I"⟩
def dkwX0_appendInput_0 : List UInt8 := [44, 3, 42, 27, 182, 0, 147, 133, 80, 167, 0, 9, 78, 4, 172, 78, 5, 172, 3, 172]
abbrev dktX0_appendInput_0 : List UInt8 := dkwX0_appendInput_0 ++ []
theorem dksX0_appendInput_0 : cX0_appendInput.data.toList.drop 0 = dktX0_appendInput_0 := by decide +kernel
theorem dX0_appendInput_0 : decode cX0_appendInput 0 = .ok (.aload_n 2, 1) := dk_44 (dk_at dksX0_appendInput_0 0 rfl rfl)
theorem dX0_appendInput_1 : decode cX0_appendInput 1 = .ok (.iconst 0, 1) := dk_3 (dk_at dksX0_appendInput_0 1 rfl rfl)
theorem dX0_appendInput_2 : decode cX0_appendInput 2 = .ok (.aload_n 0, 1) := dk_42 (dk_at dksX0_appendInput_0 2 rfl rfl)
theorem dX0_appendInput_3 : decode cX0_appendInput 3 = .ok (.iload_n 1, 1) := dk_27 (dk_at dksX0_appendInput_0 3 rfl rfl)
theorem dX0_appendInput_4 : decode cX0_appendInput 4 = .ok (.invokevirtual 147, 3) := dk_182 0 147 (dk_at dksX0_appendInput_0 4 rfl rfl)
theorem dX0_appendInput_7 : decode cX0_appendInput 7 = .ok (.i2l, 1) := dk_133 (dk_at dksX0_appendInput_0 7 rfl rfl)
theorem dX0_appendInput_8 : decode cX0_appendInput 8 = .ok (.lastore, 1) := dk_80 (dk_at dksX0_appendInput_0 8 rfl rfl)
theorem dX0_appendInput_9 : decode cX0_appendInput 9 = .ok (.goto 9, 3) := dk_167 0 9 (dk_at dksX0_appendInput_0 9 rfl rfl)
theorem dX0_appendInput_12 : decode cX0_appendInput 12 = .ok (.astore_n 3, 1) := dk_78 (dk_at dksX0_appendInput_0 12 rfl rfl)
theorem dX0_appendInput_13 : decode cX0_appendInput 13 = .ok (.iconst 1, 1) := dk_4 (dk_at dksX0_appendInput_0 13 rfl rfl)
theorem dX0_appendInput_14 : decode cX0_appendInput 14 = .ok (.ireturn, 1) := dk_172 (dk_at dksX0_appendInput_0 14 rfl rfl)
theorem dX0_appendInput_15 : decode cX0_appendInput 15 = .ok (.astore_n 3, 1) := dk_78 (dk_at dksX0_appendInput_0 15 rfl rfl)
theorem dX0_appendInput_16 : decode cX0_appendInput 16 = .ok (.iconst 2, 1) := dk_5 (dk_at dksX0_appendInput_0 16 rfl rfl)
theorem dX0_appendInput_17 : decode cX0_appendInput 17 = .ok (.ireturn, 1) := dk_172 (dk_at dksX0_appendInput_0 17 rfl rfl)
theorem dX0_appendInput_18 : decode cX0_appendInput 18 = .ok (.iconst 0, 1) := dk_3 (dk_at dksX0_appendInput_0 18 rfl rfl)
theorem dX0_appendInput_19 : decode cX0_appendInput 19 = .ok (.ireturn, 1) := dk_172 (dk_at dksX0_appendInput_0 19 rfl rfl)
abbrev cX0_execute : ByteArray := method_44_code
def yX0_execute : MethodName := ⟨RX0, "execute", "(LBenchBroker;[J)I"⟩
def dkwX0_execute_0 : List UInt8 := [43, 3, 42, 182, 0, 153, 133, 80, 167, 0, 12, 77, 4, 172, 77, 5, 172, 77, 6, 172, 3, 172]
abbrev dktX0_execute_0 : List UInt8 := dkwX0_execute_0 ++ []
theorem dksX0_execute_0 : cX0_execute.data.toList.drop 0 = dktX0_execute_0 := by decide +kernel
theorem dX0_execute_0 : decode cX0_execute 0 = .ok (.aload_n 1, 1) := dk_43 (dk_at dksX0_execute_0 0 rfl rfl)
theorem dX0_execute_1 : decode cX0_execute 1 = .ok (.iconst 0, 1) := dk_3 (dk_at dksX0_execute_0 1 rfl rfl)
theorem dX0_execute_2 : decode cX0_execute 2 = .ok (.aload_n 0, 1) := dk_42 (dk_at dksX0_execute_0 2 rfl rfl)
theorem dX0_execute_3 : decode cX0_execute 3 = .ok (.invokevirtual 153, 3) := dk_182 0 153 (dk_at dksX0_execute_0 3 rfl rfl)
theorem dX0_execute_6 : decode cX0_execute 6 = .ok (.i2l, 1) := dk_133 (dk_at dksX0_execute_0 6 rfl rfl)
theorem dX0_execute_7 : decode cX0_execute 7 = .ok (.lastore, 1) := dk_80 (dk_at dksX0_execute_0 7 rfl rfl)
theorem dX0_execute_8 : decode cX0_execute 8 = .ok (.goto 12, 3) := dk_167 0 12 (dk_at dksX0_execute_0 8 rfl rfl)
theorem dX0_execute_11 : decode cX0_execute 11 = .ok (.astore_n 2, 1) := dk_77 (dk_at dksX0_execute_0 11 rfl rfl)
theorem dX0_execute_12 : decode cX0_execute 12 = .ok (.iconst 1, 1) := dk_4 (dk_at dksX0_execute_0 12 rfl rfl)
theorem dX0_execute_13 : decode cX0_execute 13 = .ok (.ireturn, 1) := dk_172 (dk_at dksX0_execute_0 13 rfl rfl)
theorem dX0_execute_14 : decode cX0_execute 14 = .ok (.astore_n 2, 1) := dk_77 (dk_at dksX0_execute_0 14 rfl rfl)
theorem dX0_execute_15 : decode cX0_execute 15 = .ok (.iconst 2, 1) := dk_5 (dk_at dksX0_execute_0 15 rfl rfl)
theorem dX0_execute_16 : decode cX0_execute 16 = .ok (.ireturn, 1) := dk_172 (dk_at dksX0_execute_0 16 rfl rfl)
theorem dX0_execute_17 : decode cX0_execute 17 = .ok (.astore_n 2, 1) := dk_77 (dk_at dksX0_execute_0 17 rfl rfl)
theorem dX0_execute_18 : decode cX0_execute 18 = .ok (.iconst 3, 1) := dk_6 (dk_at dksX0_execute_0 18 rfl rfl)
theorem dX0_execute_19 : decode cX0_execute 19 = .ok (.ireturn, 1) := dk_172 (dk_at dksX0_execute_0 19 rfl rfl)
theorem dX0_execute_20 : decode cX0_execute 20 = .ok (.iconst 0, 1) := dk_3 (dk_at dksX0_execute_0 20 rfl rfl)
theorem dX0_execute_21 : decode cX0_execute 21 = .ok (.ireturn, 1) := dk_172 (dk_at dksX0_execute_0 21 rfl rfl)
abbrev cX0_syntaxErrorOffset : ByteArray := method_45_code
def yX0_syntaxErrorOffset : MethodName := ⟨RX0, "syntaxErrorOffset", "(LBenchBroker;[J)I"⟩
def dkwX0_syntaxErrorOffset_0 : List UInt8 := [43, 3, 42, 182, 0, 157, 133, 80, 167, 0, 6, 77, 4, 172, 3, 172]
abbrev dktX0_syntaxErrorOffset_0 : List UInt8 := dkwX0_syntaxErrorOffset_0 ++ []
theorem dksX0_syntaxErrorOffset_0 : cX0_syntaxErrorOffset.data.toList.drop 0 = dktX0_syntaxErrorOffset_0 := by decide +kernel
theorem dX0_syntaxErrorOffset_0 : decode cX0_syntaxErrorOffset 0 = .ok (.aload_n 1, 1) := dk_43 (dk_at dksX0_syntaxErrorOffset_0 0 rfl rfl)
theorem dX0_syntaxErrorOffset_1 : decode cX0_syntaxErrorOffset 1 = .ok (.iconst 0, 1) := dk_3 (dk_at dksX0_syntaxErrorOffset_0 1 rfl rfl)
theorem dX0_syntaxErrorOffset_2 : decode cX0_syntaxErrorOffset 2 = .ok (.aload_n 0, 1) := dk_42 (dk_at dksX0_syntaxErrorOffset_0 2 rfl rfl)
theorem dX0_syntaxErrorOffset_3 : decode cX0_syntaxErrorOffset 3 = .ok (.invokevirtual 157, 3) := dk_182 0 157 (dk_at dksX0_syntaxErrorOffset_0 3 rfl rfl)
theorem dX0_syntaxErrorOffset_6 : decode cX0_syntaxErrorOffset 6 = .ok (.i2l, 1) := dk_133 (dk_at dksX0_syntaxErrorOffset_0 6 rfl rfl)
theorem dX0_syntaxErrorOffset_7 : decode cX0_syntaxErrorOffset 7 = .ok (.lastore, 1) := dk_80 (dk_at dksX0_syntaxErrorOffset_0 7 rfl rfl)
theorem dX0_syntaxErrorOffset_8 : decode cX0_syntaxErrorOffset 8 = .ok (.goto 6, 3) := dk_167 0 6 (dk_at dksX0_syntaxErrorOffset_0 8 rfl rfl)
theorem dX0_syntaxErrorOffset_11 : decode cX0_syntaxErrorOffset 11 = .ok (.astore_n 2, 1) := dk_77 (dk_at dksX0_syntaxErrorOffset_0 11 rfl rfl)
theorem dX0_syntaxErrorOffset_12 : decode cX0_syntaxErrorOffset 12 = .ok (.iconst 1, 1) := dk_4 (dk_at dksX0_syntaxErrorOffset_0 12 rfl rfl)
theorem dX0_syntaxErrorOffset_13 : decode cX0_syntaxErrorOffset 13 = .ok (.ireturn, 1) := dk_172 (dk_at dksX0_syntaxErrorOffset_0 13 rfl rfl)
theorem dX0_syntaxErrorOffset_14 : decode cX0_syntaxErrorOffset 14 = .ok (.iconst 0, 1) := dk_3 (dk_at dksX0_syntaxErrorOffset_0 14 rfl rfl)
theorem dX0_syntaxErrorOffset_15 : decode cX0_syntaxErrorOffset 15 = .ok (.ireturn, 1) := dk_172 (dk_at dksX0_syntaxErrorOffset_0 15 rfl rfl)
abbrev cX0_rejectionReason : ByteArray := method_46_code
def yX0_rejectionReason : MethodName := ⟨RX0, "rejectionReason", "(LBenchBroker;[J)I"⟩
def dkwX0_rejectionReason_0 : List UInt8 := [43, 3, 42, 182, 0, 160, 133, 80, 167, 0, 6, 77, 4, 172, 3, 172]
abbrev dktX0_rejectionReason_0 : List UInt8 := dkwX0_rejectionReason_0 ++ []
theorem dksX0_rejectionReason_0 : cX0_rejectionReason.data.toList.drop 0 = dktX0_rejectionReason_0 := by decide +kernel
theorem dX0_rejectionReason_0 : decode cX0_rejectionReason 0 = .ok (.aload_n 1, 1) := dk_43 (dk_at dksX0_rejectionReason_0 0 rfl rfl)
theorem dX0_rejectionReason_1 : decode cX0_rejectionReason 1 = .ok (.iconst 0, 1) := dk_3 (dk_at dksX0_rejectionReason_0 1 rfl rfl)
theorem dX0_rejectionReason_2 : decode cX0_rejectionReason 2 = .ok (.aload_n 0, 1) := dk_42 (dk_at dksX0_rejectionReason_0 2 rfl rfl)
theorem dX0_rejectionReason_3 : decode cX0_rejectionReason 3 = .ok (.invokevirtual 160, 3) := dk_182 0 160 (dk_at dksX0_rejectionReason_0 3 rfl rfl)
theorem dX0_rejectionReason_6 : decode cX0_rejectionReason 6 = .ok (.i2l, 1) := dk_133 (dk_at dksX0_rejectionReason_0 6 rfl rfl)
theorem dX0_rejectionReason_7 : decode cX0_rejectionReason 7 = .ok (.lastore, 1) := dk_80 (dk_at dksX0_rejectionReason_0 7 rfl rfl)
theorem dX0_rejectionReason_8 : decode cX0_rejectionReason 8 = .ok (.goto 6, 3) := dk_167 0 6 (dk_at dksX0_rejectionReason_0 8 rfl rfl)
theorem dX0_rejectionReason_11 : decode cX0_rejectionReason 11 = .ok (.astore_n 2, 1) := dk_77 (dk_at dksX0_rejectionReason_0 11 rfl rfl)
theorem dX0_rejectionReason_12 : decode cX0_rejectionReason 12 = .ok (.iconst 1, 1) := dk_4 (dk_at dksX0_rejectionReason_0 12 rfl rfl)
theorem dX0_rejectionReason_13 : decode cX0_rejectionReason 13 = .ok (.ireturn, 1) := dk_172 (dk_at dksX0_rejectionReason_0 13 rfl rfl)
theorem dX0_rejectionReason_14 : decode cX0_rejectionReason 14 = .ok (.iconst 0, 1) := dk_3 (dk_at dksX0_rejectionReason_0 14 rfl rfl)
theorem dX0_rejectionReason_15 : decode cX0_rejectionReason 15 = .ok (.ireturn, 1) := dk_172 (dk_at dksX0_rejectionReason_0 15 rfl rfl)
abbrev cX0_rejectionDetail : ByteArray := method_47_code
def yX0_rejectionDetail : MethodName := ⟨RX0, "rejectionDetail", "(LBenchBroker;[J)I"⟩
def dkwX0_rejectionDetail_0 : List UInt8 := [43, 3, 42, 182, 0, 163, 133, 80, 167, 0, 6, 77, 4, 172, 3, 172]
abbrev dktX0_rejectionDetail_0 : List UInt8 := dkwX0_rejectionDetail_0 ++ []
theorem dksX0_rejectionDetail_0 : cX0_rejectionDetail.data.toList.drop 0 = dktX0_rejectionDetail_0 := by decide +kernel
theorem dX0_rejectionDetail_0 : decode cX0_rejectionDetail 0 = .ok (.aload_n 1, 1) := dk_43 (dk_at dksX0_rejectionDetail_0 0 rfl rfl)
theorem dX0_rejectionDetail_1 : decode cX0_rejectionDetail 1 = .ok (.iconst 0, 1) := dk_3 (dk_at dksX0_rejectionDetail_0 1 rfl rfl)
theorem dX0_rejectionDetail_2 : decode cX0_rejectionDetail 2 = .ok (.aload_n 0, 1) := dk_42 (dk_at dksX0_rejectionDetail_0 2 rfl rfl)
theorem dX0_rejectionDetail_3 : decode cX0_rejectionDetail 3 = .ok (.invokevirtual 163, 3) := dk_182 0 163 (dk_at dksX0_rejectionDetail_0 3 rfl rfl)
theorem dX0_rejectionDetail_6 : decode cX0_rejectionDetail 6 = .ok (.i2l, 1) := dk_133 (dk_at dksX0_rejectionDetail_0 6 rfl rfl)
theorem dX0_rejectionDetail_7 : decode cX0_rejectionDetail 7 = .ok (.lastore, 1) := dk_80 (dk_at dksX0_rejectionDetail_0 7 rfl rfl)
theorem dX0_rejectionDetail_8 : decode cX0_rejectionDetail 8 = .ok (.goto 6, 3) := dk_167 0 6 (dk_at dksX0_rejectionDetail_0 8 rfl rfl)
theorem dX0_rejectionDetail_11 : decode cX0_rejectionDetail 11 = .ok (.astore_n 2, 1) := dk_77 (dk_at dksX0_rejectionDetail_0 11 rfl rfl)
theorem dX0_rejectionDetail_12 : decode cX0_rejectionDetail 12 = .ok (.iconst 1, 1) := dk_4 (dk_at dksX0_rejectionDetail_0 12 rfl rfl)
theorem dX0_rejectionDetail_13 : decode cX0_rejectionDetail 13 = .ok (.ireturn, 1) := dk_172 (dk_at dksX0_rejectionDetail_0 13 rfl rfl)
theorem dX0_rejectionDetail_14 : decode cX0_rejectionDetail 14 = .ok (.iconst 0, 1) := dk_3 (dk_at dksX0_rejectionDetail_0 14 rfl rfl)
theorem dX0_rejectionDetail_15 : decode cX0_rejectionDetail 15 = .ok (.ireturn, 1) := dk_172 (dk_at dksX0_rejectionDetail_0 15 rfl rfl)
abbrev cX0_causeReason : ByteArray := method_48_code
def yX0_causeReason : MethodName := ⟨RX0, "causeReason", "(LBenchBroker;[J)I"⟩
def dkwX0_causeReason_0 : List UInt8 := [43, 3, 42, 182, 0, 166, 133, 80, 167, 0, 6, 77, 4, 172, 3, 172]
abbrev dktX0_causeReason_0 : List UInt8 := dkwX0_causeReason_0 ++ []
theorem dksX0_causeReason_0 : cX0_causeReason.data.toList.drop 0 = dktX0_causeReason_0 := by decide +kernel
theorem dX0_causeReason_0 : decode cX0_causeReason 0 = .ok (.aload_n 1, 1) := dk_43 (dk_at dksX0_causeReason_0 0 rfl rfl)
theorem dX0_causeReason_1 : decode cX0_causeReason 1 = .ok (.iconst 0, 1) := dk_3 (dk_at dksX0_causeReason_0 1 rfl rfl)
theorem dX0_causeReason_2 : decode cX0_causeReason 2 = .ok (.aload_n 0, 1) := dk_42 (dk_at dksX0_causeReason_0 2 rfl rfl)
theorem dX0_causeReason_3 : decode cX0_causeReason 3 = .ok (.invokevirtual 166, 3) := dk_182 0 166 (dk_at dksX0_causeReason_0 3 rfl rfl)
theorem dX0_causeReason_6 : decode cX0_causeReason 6 = .ok (.i2l, 1) := dk_133 (dk_at dksX0_causeReason_0 6 rfl rfl)
theorem dX0_causeReason_7 : decode cX0_causeReason 7 = .ok (.lastore, 1) := dk_80 (dk_at dksX0_causeReason_0 7 rfl rfl)
theorem dX0_causeReason_8 : decode cX0_causeReason 8 = .ok (.goto 6, 3) := dk_167 0 6 (dk_at dksX0_causeReason_0 8 rfl rfl)
theorem dX0_causeReason_11 : decode cX0_causeReason 11 = .ok (.astore_n 2, 1) := dk_77 (dk_at dksX0_causeReason_0 11 rfl rfl)
theorem dX0_causeReason_12 : decode cX0_causeReason 12 = .ok (.iconst 1, 1) := dk_4 (dk_at dksX0_causeReason_0 12 rfl rfl)
theorem dX0_causeReason_13 : decode cX0_causeReason 13 = .ok (.ireturn, 1) := dk_172 (dk_at dksX0_causeReason_0 13 rfl rfl)
theorem dX0_causeReason_14 : decode cX0_causeReason 14 = .ok (.iconst 0, 1) := dk_3 (dk_at dksX0_causeReason_0 14 rfl rfl)
theorem dX0_causeReason_15 : decode cX0_causeReason 15 = .ok (.ireturn, 1) := dk_172 (dk_at dksX0_causeReason_0 15 rfl rfl)
abbrev cX0_undo : ByteArray := method_49_code
def yX0_undo : MethodName := ⟨RX0, "undo", "(LBenchBroker;[J)I"⟩
def dkwX0_undo_0 : List UInt8 := [43, 3, 42, 182, 0, 169, 133, 80, 167, 0, 6, 77, 4, 172, 3, 172]
abbrev dktX0_undo_0 : List UInt8 := dkwX0_undo_0 ++ []
theorem dksX0_undo_0 : cX0_undo.data.toList.drop 0 = dktX0_undo_0 := by decide +kernel
theorem dX0_undo_0 : decode cX0_undo 0 = .ok (.aload_n 1, 1) := dk_43 (dk_at dksX0_undo_0 0 rfl rfl)
theorem dX0_undo_1 : decode cX0_undo 1 = .ok (.iconst 0, 1) := dk_3 (dk_at dksX0_undo_0 1 rfl rfl)
theorem dX0_undo_2 : decode cX0_undo 2 = .ok (.aload_n 0, 1) := dk_42 (dk_at dksX0_undo_0 2 rfl rfl)
theorem dX0_undo_3 : decode cX0_undo 3 = .ok (.invokevirtual 169, 3) := dk_182 0 169 (dk_at dksX0_undo_0 3 rfl rfl)
theorem dX0_undo_6 : decode cX0_undo 6 = .ok (.i2l, 1) := dk_133 (dk_at dksX0_undo_0 6 rfl rfl)
theorem dX0_undo_7 : decode cX0_undo 7 = .ok (.lastore, 1) := dk_80 (dk_at dksX0_undo_0 7 rfl rfl)
theorem dX0_undo_8 : decode cX0_undo 8 = .ok (.goto 6, 3) := dk_167 0 6 (dk_at dksX0_undo_0 8 rfl rfl)
theorem dX0_undo_11 : decode cX0_undo 11 = .ok (.astore_n 2, 1) := dk_77 (dk_at dksX0_undo_0 11 rfl rfl)
theorem dX0_undo_12 : decode cX0_undo 12 = .ok (.iconst 1, 1) := dk_4 (dk_at dksX0_undo_0 12 rfl rfl)
theorem dX0_undo_13 : decode cX0_undo 13 = .ok (.ireturn, 1) := dk_172 (dk_at dksX0_undo_0 13 rfl rfl)
theorem dX0_undo_14 : decode cX0_undo 14 = .ok (.iconst 0, 1) := dk_3 (dk_at dksX0_undo_0 14 rfl rfl)
theorem dX0_undo_15 : decode cX0_undo 15 = .ok (.ireturn, 1) := dk_172 (dk_at dksX0_undo_0 15 rfl rfl)
abbrev cX0_restoreSnapshot : ByteArray := method_50_code
def yX0_restoreSnapshot : MethodName := ⟨RX0, "restoreSnapshot", "(LBenchBroker;[J)I"⟩
def dkwX0_restoreSnapshot_0 : List UInt8 := [43, 3, 42, 182, 0, 172, 133, 80, 167, 0, 6, 77, 4, 172, 3, 172]
abbrev dktX0_restoreSnapshot_0 : List UInt8 := dkwX0_restoreSnapshot_0 ++ []
theorem dksX0_restoreSnapshot_0 : cX0_restoreSnapshot.data.toList.drop 0 = dktX0_restoreSnapshot_0 := by decide +kernel
theorem dX0_restoreSnapshot_0 : decode cX0_restoreSnapshot 0 = .ok (.aload_n 1, 1) := dk_43 (dk_at dksX0_restoreSnapshot_0 0 rfl rfl)
theorem dX0_restoreSnapshot_1 : decode cX0_restoreSnapshot 1 = .ok (.iconst 0, 1) := dk_3 (dk_at dksX0_restoreSnapshot_0 1 rfl rfl)
theorem dX0_restoreSnapshot_2 : decode cX0_restoreSnapshot 2 = .ok (.aload_n 0, 1) := dk_42 (dk_at dksX0_restoreSnapshot_0 2 rfl rfl)
theorem dX0_restoreSnapshot_3 : decode cX0_restoreSnapshot 3 = .ok (.invokevirtual 172, 3) := dk_182 0 172 (dk_at dksX0_restoreSnapshot_0 3 rfl rfl)
theorem dX0_restoreSnapshot_6 : decode cX0_restoreSnapshot 6 = .ok (.i2l, 1) := dk_133 (dk_at dksX0_restoreSnapshot_0 6 rfl rfl)
theorem dX0_restoreSnapshot_7 : decode cX0_restoreSnapshot 7 = .ok (.lastore, 1) := dk_80 (dk_at dksX0_restoreSnapshot_0 7 rfl rfl)
theorem dX0_restoreSnapshot_8 : decode cX0_restoreSnapshot 8 = .ok (.goto 6, 3) := dk_167 0 6 (dk_at dksX0_restoreSnapshot_0 8 rfl rfl)
theorem dX0_restoreSnapshot_11 : decode cX0_restoreSnapshot 11 = .ok (.astore_n 2, 1) := dk_77 (dk_at dksX0_restoreSnapshot_0 11 rfl rfl)
theorem dX0_restoreSnapshot_12 : decode cX0_restoreSnapshot 12 = .ok (.iconst 1, 1) := dk_4 (dk_at dksX0_restoreSnapshot_0 12 rfl rfl)
theorem dX0_restoreSnapshot_13 : decode cX0_restoreSnapshot 13 = .ok (.ireturn, 1) := dk_172 (dk_at dksX0_restoreSnapshot_0 13 rfl rfl)
theorem dX0_restoreSnapshot_14 : decode cX0_restoreSnapshot 14 = .ok (.iconst 0, 1) := dk_3 (dk_at dksX0_restoreSnapshot_0 14 rfl rfl)
theorem dX0_restoreSnapshot_15 : decode cX0_restoreSnapshot 15 = .ok (.ireturn, 1) := dk_172 (dk_at dksX0_restoreSnapshot_0 15 rfl rfl)
theorem q85 : (Jvm.Cond.initialized "BenchBrokerLaw") ∈ lw_all := lw_g (lw_at lw_m1 0 rfl) rfl
theorem q133 : (Jvm.Cond.classLink "BenchBrokerLaw" (8 : Nat) "BenchBroker") ∈ lw_all := lw_g (lw_at lw_m1 48 rfl) rfl
theorem q135 : (Jvm.Cond.methodLink "BenchBrokerLaw" (175 : Nat) ({ cls := "BenchBroker", name := "<init>", desc := "()V" } : Jvm.MethodName)) ∈ lw_all := lw_g (lw_at lw_m1 50 rfl) rfl
theorem q289 : (Jvm.Cond.methodLink "BenchBrokerLaw" (205 : Nat) ({ cls := "BenchBroker", name := "benchCount", desc := "()I" } : Jvm.MethodName)) ∈ lw_all := lw_g (lw_at lw_m1 204 rfl) rfl
theorem q301 : (Jvm.Cond.methodLink "BenchBrokerLaw" (221 : Nat) ({ cls := "BenchBroker", name := "fountainCount", desc := "()I" } : Jvm.MethodName)) ∈ lw_all := lw_g (lw_at lw_m1 216 rfl) rfl
theorem q305 : (Jvm.Cond.methodLink "BenchBrokerLaw" (231 : Nat) ({ cls := "BenchBroker", name := "noiseLimit", desc := "()I" } : Jvm.MethodName)) ∈ lw_all := lw_g (lw_at lw_m1 220 rfl) rfl
theorem q309 : (Jvm.Cond.methodLink "BenchBrokerLaw" (244 : Nat) ({ cls := "BenchBroker", name := "quietCount", desc := "()I" } : Jvm.MethodName)) ∈ lw_all := lw_g (lw_at lw_m1 224 rfl) rfl
theorem q388 : (Jvm.Cond.methodLink "BenchBrokerLaw" (254 : Nat) ({ cls := "BenchBroker", name := "tenantCount", desc := "()I" } : Jvm.MethodName)) ∈ lw_all := lw_g (lw_at lw_m2 63 rfl) rfl
theorem q392 : (Jvm.Cond.methodLink "BenchBrokerLaw" (300 : Nat) ({ cls := "BenchBroker", name := "month", desc := "()I" } : Jvm.MethodName)) ∈ lw_all := lw_g (lw_at lw_m2 67 rfl) rfl
theorem q396 : (Jvm.Cond.methodLink "BenchBrokerLaw" (310 : Nat) ({ cls := "BenchBroker", name := "brokerCoins", desc := "()I" } : Jvm.MethodName)) ∈ lw_all := lw_g (lw_at lw_m2 71 rfl) rfl
theorem q400 : (Jvm.Cond.methodLink "BenchBrokerLaw" (314 : Nat) ({ cls := "BenchBroker", name := "depositTotal", desc := "()I" } : Jvm.MethodName)) ∈ lw_all := lw_g (lw_at lw_m2 75 rfl) rfl
theorem q410 : (Jvm.Cond.methodLink "BenchBrokerLaw" (318 : Nat) ({ cls := "BenchBroker", name := "allCoins", desc := "()I" } : Jvm.MethodName)) ∈ lw_all := lw_g (lw_at lw_m2 85 rfl) rfl
theorem q421 : (Jvm.Cond.methodLink "BenchBrokerLaw" (322 : Nat) ({ cls := "BenchBroker", name := "allCoinsGiven", desc := "()I" } : Jvm.MethodName)) ∈ lw_all := lw_g (lw_at lw_m2 96 rfl) rfl
theorem q425 : (Jvm.Cond.methodLink "BenchBrokerLaw" (326 : Nat) ({ cls := "BenchBroker", name := "defaultedLeases", desc := "()I" } : Jvm.MethodName)) ∈ lw_all := lw_g (lw_at lw_m2 100 rfl) rfl
theorem q429 : (Jvm.Cond.methodLink "BenchBrokerLaw" (330 : Nat) ({ cls := "BenchBroker", name := "terminatedLeases", desc := "()I" } : Jvm.MethodName)) ∈ lw_all := lw_g (lw_at lw_m2 104 rfl) rfl
theorem q433 : (Jvm.Cond.methodLink "BenchBrokerLaw" (334 : Nat) ({ cls := "BenchBroker", name := "completedLeases", desc := "()I" } : Jvm.MethodName)) ∈ lw_all := lw_g (lw_at lw_m2 108 rfl) rfl
theorem q437 : (Jvm.Cond.methodLink "BenchBrokerLaw" (351 : Nat) ({ cls := "BenchBroker", name := "isConsistent", desc := "()Z" } : Jvm.MethodName)) ∈ lw_all := lw_g (lw_at lw_m2 112 rfl) rfl
theorem q897 : (Jvm.Cond.methodLink "BenchBrokerLaw" (388 : Nat) ({ cls := "BenchBroker", name := "saveSnapshot", desc := "()I" } : Jvm.MethodName)) ∈ lw_all := lw_g (lw_at lw_m4 92 rfl) rfl
theorem q902 : (Jvm.Cond.methodLink "BenchBrokerLaw" (179 : Nat) ({ cls := "BenchBrokerLaw", name := "addBench", desc := "(LBenchBroker;III[J)I" } : Jvm.MethodName)) ∈ lw_all := lw_g (lw_at lw_m4 97 rfl) rfl
theorem q903 : (Jvm.Cond.static ({ cls := "BenchBrokerLaw", name := "addBench", desc := "(LBenchBroker;III[J)I" } : Jvm.MethodName)) ∈ lw_all := lw_g (lw_at lw_m4 98 rfl) rfl
theorem q904 : (Jvm.Cond.codeWith ({ cls := "BenchBrokerLaw", name := "addBench", desc := "(LBenchBroker;III[J)I" } : Jvm.MethodName) method_3_code (6 : Nat) (Option.some Jvm.ClassFile.FieldType.int) [((0 : Nat), (12 : Nat), (15 : Nat), (13 : Nat)), ((0 : Nat), (12 : Nat), (19 : Nat), (15 : Nat)), ((0 : Nat), (12 : Nat), (23 : Nat), (17 : Nat))]) ∈ lw_all := lw_g (lw_at lw_m4 99 rfl) rfl
theorem q905 : (Jvm.Cond.classLink "BenchBrokerLaw" (13 : Nat) "java/lang/IndexOutOfBoundsException") ∈ lw_all := lw_g (lw_at lw_m4 100 rfl) rfl
theorem q929 : (Jvm.Cond.classLink "BenchBrokerLaw" (15 : Nat) "java/lang/IllegalArgumentException") ∈ lw_all := lw_g (lw_at lw_m4 124 rfl) rfl
theorem q930 : (Jvm.Cond.classLink "BenchBrokerLaw" (17 : Nat) "java/lang/UnsupportedOperationException") ∈ lw_all := lw_g (lw_at lw_m4 125 rfl) rfl
theorem q931 : (Jvm.Cond.methodLink "BenchBrokerLaw" (7 : Nat) ({ cls := "BenchBroker", name := "addBench", desc := "(III)I" } : Jvm.MethodName)) ∈ lw_all := lw_g (lw_at lw_m4 126 rfl) rfl
theorem q1185 : (Jvm.Cond.methodLink "BenchBrokerLaw" (188 : Nat) ({ cls := "BenchBrokerLaw", name := "setRent", desc := "(LBenchBroker;II[J)I" } : Jvm.MethodName)) ∈ lw_all := lw_g (lw_at lw_m5 140 rfl) rfl
theorem q1186 : (Jvm.Cond.static ({ cls := "BenchBrokerLaw", name := "setRent", desc := "(LBenchBroker;II[J)I" } : Jvm.MethodName)) ∈ lw_all := lw_g (lw_at lw_m5 141 rfl) rfl
theorem q1187 : (Jvm.Cond.codeWith ({ cls := "BenchBrokerLaw", name := "setRent", desc := "(LBenchBroker;II[J)I" } : Jvm.MethodName) method_4_code (5 : Nat) (Option.some Jvm.ClassFile.FieldType.int) [((0 : Nat), (10 : Nat), (13 : Nat), (13 : Nat)), ((0 : Nat), (10 : Nat), (17 : Nat), (15 : Nat))]) ∈ lw_all := lw_g (lw_at lw_m5 142 rfl) rfl
theorem q1188 : (Jvm.Cond.methodLink "BenchBrokerLaw" (19 : Nat) ({ cls := "BenchBroker", name := "setRent", desc := "(II)I" } : Jvm.MethodName)) ∈ lw_all := lw_g (lw_at lw_m5 143 rfl) rfl
theorem q1201 : (Jvm.Cond.methodLink "BenchBrokerLaw" (192 : Nat) ({ cls := "BenchBrokerLaw", name := "addFountain", desc := "(LBenchBroker;III[J)I" } : Jvm.MethodName)) ∈ lw_all := lw_g (lw_at lw_m5 156 rfl) rfl
theorem q1202 : (Jvm.Cond.static ({ cls := "BenchBrokerLaw", name := "addFountain", desc := "(LBenchBroker;III[J)I" } : Jvm.MethodName)) ∈ lw_all := lw_g (lw_at lw_m5 157 rfl) rfl
theorem q1203 : (Jvm.Cond.codeWith ({ cls := "BenchBrokerLaw", name := "addFountain", desc := "(LBenchBroker;III[J)I" } : Jvm.MethodName) method_5_code (6 : Nat) (Option.some Jvm.ClassFile.FieldType.int) [((0 : Nat), (12 : Nat), (15 : Nat), (13 : Nat)), ((0 : Nat), (12 : Nat), (19 : Nat), (15 : Nat)), ((0 : Nat), (12 : Nat), (23 : Nat), (17 : Nat))]) ∈ lw_all := lw_g (lw_at lw_m5 158 rfl) rfl
theorem q1204 : (Jvm.Cond.methodLink "BenchBrokerLaw" (23 : Nat) ({ cls := "BenchBroker", name := "addFountain", desc := "(III)I" } : Jvm.MethodName)) ∈ lw_all := lw_g (lw_at lw_m5 159 rfl) rfl
theorem q1211 : (Jvm.Cond.methodLink "BenchBrokerLaw" (195 : Nat) ({ cls := "BenchBrokerLaw", name := "setLoudness", desc := "(LBenchBroker;II[J)I" } : Jvm.MethodName)) ∈ lw_all := lw_g (lw_at lw_m5 166 rfl) rfl
theorem q1212 : (Jvm.Cond.static ({ cls := "BenchBrokerLaw", name := "setLoudness", desc := "(LBenchBroker;II[J)I" } : Jvm.MethodName)) ∈ lw_all := lw_g (lw_at lw_m5 167 rfl) rfl
theorem q1213 : (Jvm.Cond.codeWith ({ cls := "BenchBrokerLaw", name := "setLoudness", desc := "(LBenchBroker;II[J)I" } : Jvm.MethodName) method_6_code (5 : Nat) (Option.some Jvm.ClassFile.FieldType.int) [((0 : Nat), (10 : Nat), (13 : Nat), (13 : Nat)), ((0 : Nat), (10 : Nat), (17 : Nat), (15 : Nat))]) ∈ lw_all := lw_g (lw_at lw_m5 168 rfl) rfl
theorem q1214 : (Jvm.Cond.methodLink "BenchBrokerLaw" (26 : Nat) ({ cls := "BenchBroker", name := "setLoudness", desc := "(II)I" } : Jvm.MethodName)) ∈ lw_all := lw_g (lw_at lw_m5 169 rfl) rfl
theorem q1222 : (Jvm.Cond.methodLink "BenchBrokerLaw" (198 : Nat) ({ cls := "BenchBrokerLaw", name := "switchFountain", desc := "(LBenchBroker;I[J)I" } : Jvm.MethodName)) ∈ lw_all := lw_g (lw_at lw_m5 177 rfl) rfl
theorem q1223 : (Jvm.Cond.static ({ cls := "BenchBrokerLaw", name := "switchFountain", desc := "(LBenchBroker;I[J)I" } : Jvm.MethodName)) ∈ lw_all := lw_g (lw_at lw_m5 178 rfl) rfl
theorem q1224 : (Jvm.Cond.codeWith ({ cls := "BenchBrokerLaw", name := "switchFountain", desc := "(LBenchBroker;I[J)I" } : Jvm.MethodName) method_7_code (4 : Nat) (Option.some Jvm.ClassFile.FieldType.int) [((0 : Nat), (16 : Nat), (19 : Nat), (13 : Nat))]) ∈ lw_all := lw_g (lw_at lw_m5 179 rfl) rfl
theorem q1225 : (Jvm.Cond.methodLink "BenchBrokerLaw" (29 : Nat) ({ cls := "BenchBroker", name := "switchFountain", desc := "(I)Z" } : Jvm.MethodName)) ∈ lw_all := lw_g (lw_at lw_m5 180 rfl) rfl
theorem q1242 : (Jvm.Cond.methodLink "BenchBrokerLaw" (202 : Nat) ({ cls := "BenchBrokerLaw", name := "setNoiseLimit", desc := "(LBenchBroker;I[J)I" } : Jvm.MethodName)) ∈ lw_all := lw_g (lw_at lw_m5 197 rfl) rfl
theorem q1243 : (Jvm.Cond.static ({ cls := "BenchBrokerLaw", name := "setNoiseLimit", desc := "(LBenchBroker;I[J)I" } : Jvm.MethodName)) ∈ lw_all := lw_g (lw_at lw_m5 198 rfl) rfl
theorem q1244 : (Jvm.Cond.codeWith ({ cls := "BenchBrokerLaw", name := "setNoiseLimit", desc := "(LBenchBroker;I[J)I" } : Jvm.MethodName) method_8_code (4 : Nat) (Option.some Jvm.ClassFile.FieldType.int) [((0 : Nat), (9 : Nat), (12 : Nat), (15 : Nat))]) ∈ lw_all := lw_g (lw_at lw_m5 199 rfl) rfl
theorem q1245 : (Jvm.Cond.methodLink "BenchBrokerLaw" (33 : Nat) ({ cls := "BenchBroker", name := "setNoiseLimit", desc := "(I)I" } : Jvm.MethodName)) ∈ lw_all := lw_g (lw_at lw_m5 200 rfl) rfl
theorem q1252 : (Jvm.Cond.methodLink "BenchBrokerLaw" (209 : Nat) ({ cls := "BenchBrokerLaw", name := "rowOf", desc := "(LBenchBroker;I[J)I" } : Jvm.MethodName)) ∈ lw_all := lw_g (lw_at lw_m5 207 rfl) rfl
theorem q1253 : (Jvm.Cond.static ({ cls := "BenchBrokerLaw", name := "rowOf", desc := "(LBenchBroker;I[J)I" } : Jvm.MethodName)) ∈ lw_all := lw_g (lw_at lw_m5 208 rfl) rfl
theorem q1254 : (Jvm.Cond.codeWith ({ cls := "BenchBrokerLaw", name := "rowOf", desc := "(LBenchBroker;I[J)I" } : Jvm.MethodName) method_9_code (4 : Nat) (Option.some Jvm.ClassFile.FieldType.int) [((0 : Nat), (9 : Nat), (12 : Nat), (13 : Nat))]) ∈ lw_all := lw_g (lw_at lw_m5 209 rfl) rfl
theorem q1255 : (Jvm.Cond.methodLink "BenchBrokerLaw" (37 : Nat) ({ cls := "BenchBroker", name := "rowOf", desc := "(I)I" } : Jvm.MethodName)) ∈ lw_all := lw_g (lw_at lw_m5 210 rfl) rfl
theorem q1263 : (Jvm.Cond.methodLink "BenchBrokerLaw" (212 : Nat) ({ cls := "BenchBrokerLaw", name := "columnOf", desc := "(LBenchBroker;I[J)I" } : Jvm.MethodName)) ∈ lw_all := lw_g (lw_at lw_m5 218 rfl) rfl
theorem q1264 : (Jvm.Cond.static ({ cls := "BenchBrokerLaw", name := "columnOf", desc := "(LBenchBroker;I[J)I" } : Jvm.MethodName)) ∈ lw_all := lw_g (lw_at lw_m5 219 rfl) rfl
theorem q1265 : (Jvm.Cond.codeWith ({ cls := "BenchBrokerLaw", name := "columnOf", desc := "(LBenchBroker;I[J)I" } : Jvm.MethodName) method_10_code (4 : Nat) (Option.some Jvm.ClassFile.FieldType.int) [((0 : Nat), (9 : Nat), (12 : Nat), (13 : Nat))]) ∈ lw_all := lw_g (lw_at lw_m5 220 rfl) rfl
theorem q1266 : (Jvm.Cond.methodLink "BenchBrokerLaw" (40 : Nat) ({ cls := "BenchBroker", name := "columnOf", desc := "(I)I" } : Jvm.MethodName)) ∈ lw_all := lw_g (lw_at lw_m5 221 rfl) rfl
theorem q1270 : (Jvm.Cond.methodLink "BenchBrokerLaw" (215 : Nat) ({ cls := "BenchBrokerLaw", name := "baseRent", desc := "(LBenchBroker;I[J)I" } : Jvm.MethodName)) ∈ lw_all := lw_g (lw_at lw_m5 225 rfl) rfl
theorem q1271 : (Jvm.Cond.static ({ cls := "BenchBrokerLaw", name := "baseRent", desc := "(LBenchBroker;I[J)I" } : Jvm.MethodName)) ∈ lw_all := lw_g (lw_at lw_m5 226 rfl) rfl
theorem q1272 : (Jvm.Cond.codeWith ({ cls := "BenchBrokerLaw", name := "baseRent", desc := "(LBenchBroker;I[J)I" } : Jvm.MethodName) method_11_code (4 : Nat) (Option.some Jvm.ClassFile.FieldType.int) [((0 : Nat), (9 : Nat), (12 : Nat), (13 : Nat))]) ∈ lw_all := lw_g (lw_at lw_m5 227 rfl) rfl
theorem q1273 : (Jvm.Cond.methodLink "BenchBrokerLaw" (43 : Nat) ({ cls := "BenchBroker", name := "baseRent", desc := "(I)I" } : Jvm.MethodName)) ∈ lw_all := lw_g (lw_at lw_m5 228 rfl) rfl
theorem q1277 : (Jvm.Cond.methodLink "BenchBrokerLaw" (218 : Nat) ({ cls := "BenchBrokerLaw", name := "rentOf", desc := "(LBenchBroker;I[J)I" } : Jvm.MethodName)) ∈ lw_all := lw_g (lw_at lw_m5 232 rfl) rfl
theorem q1278 : (Jvm.Cond.static ({ cls := "BenchBrokerLaw", name := "rentOf", desc := "(LBenchBroker;I[J)I" } : Jvm.MethodName)) ∈ lw_all := lw_g (lw_at lw_m5 233 rfl) rfl
theorem q1279 : (Jvm.Cond.codeWith ({ cls := "BenchBrokerLaw", name := "rentOf", desc := "(LBenchBroker;I[J)I" } : Jvm.MethodName) method_12_code (4 : Nat) (Option.some Jvm.ClassFile.FieldType.int) [((0 : Nat), (9 : Nat), (12 : Nat), (13 : Nat))]) ∈ lw_all := lw_g (lw_at lw_m5 234 rfl) rfl
theorem q1280 : (Jvm.Cond.methodLink "BenchBrokerLaw" (46 : Nat) ({ cls := "BenchBroker", name := "rentOf", desc := "(I)I" } : Jvm.MethodName)) ∈ lw_all := lw_g (lw_at lw_m5 235 rfl) rfl
theorem q1285 : (Jvm.Cond.methodLink "BenchBrokerLaw" (225 : Nat) ({ cls := "BenchBrokerLaw", name := "loudnessOf", desc := "(LBenchBroker;I[J)I" } : Jvm.MethodName)) ∈ lw_all := lw_g (lw_at lw_m6 0 rfl) rfl
theorem q1286 : (Jvm.Cond.static ({ cls := "BenchBrokerLaw", name := "loudnessOf", desc := "(LBenchBroker;I[J)I" } : Jvm.MethodName)) ∈ lw_all := lw_g (lw_at lw_m6 1 rfl) rfl
theorem q1287 : (Jvm.Cond.codeWith ({ cls := "BenchBrokerLaw", name := "loudnessOf", desc := "(LBenchBroker;I[J)I" } : Jvm.MethodName) method_13_code (4 : Nat) (Option.some Jvm.ClassFile.FieldType.int) [((0 : Nat), (9 : Nat), (12 : Nat), (13 : Nat))]) ∈ lw_all := lw_g (lw_at lw_m6 2 rfl) rfl
theorem q1288 : (Jvm.Cond.methodLink "BenchBrokerLaw" (49 : Nat) ({ cls := "BenchBroker", name := "loudnessOf", desc := "(I)I" } : Jvm.MethodName)) ∈ lw_all := lw_g (lw_at lw_m6 3 rfl) rfl
theorem q1297 : (Jvm.Cond.methodLink "BenchBrokerLaw" (228 : Nat) ({ cls := "BenchBrokerLaw", name := "isRunning", desc := "(LBenchBroker;I[J)I" } : Jvm.MethodName)) ∈ lw_all := lw_g (lw_at lw_m6 12 rfl) rfl
theorem q1298 : (Jvm.Cond.static ({ cls := "BenchBrokerLaw", name := "isRunning", desc := "(LBenchBroker;I[J)I" } : Jvm.MethodName)) ∈ lw_all := lw_g (lw_at lw_m6 13 rfl) rfl
theorem q1299 : (Jvm.Cond.codeWith ({ cls := "BenchBrokerLaw", name := "isRunning", desc := "(LBenchBroker;I[J)I" } : Jvm.MethodName) method_14_code (4 : Nat) (Option.some Jvm.ClassFile.FieldType.int) [((0 : Nat), (16 : Nat), (19 : Nat), (13 : Nat))]) ∈ lw_all := lw_g (lw_at lw_m6 14 rfl) rfl
theorem q1300 : (Jvm.Cond.methodLink "BenchBrokerLaw" (52 : Nat) ({ cls := "BenchBroker", name := "isRunning", desc := "(I)Z" } : Jvm.MethodName)) ∈ lw_all := lw_g (lw_at lw_m6 15 rfl) rfl
theorem q1304 : (Jvm.Cond.methodLink "BenchBrokerLaw" (235 : Nat) ({ cls := "BenchBrokerLaw", name := "noiseAt", desc := "(LBenchBroker;II[J)I" } : Jvm.MethodName)) ∈ lw_all := lw_g (lw_at lw_m6 19 rfl) rfl
theorem q1305 : (Jvm.Cond.static ({ cls := "BenchBrokerLaw", name := "noiseAt", desc := "(LBenchBroker;II[J)I" } : Jvm.MethodName)) ∈ lw_all := lw_g (lw_at lw_m6 20 rfl) rfl
theorem q1306 : (Jvm.Cond.codeWith ({ cls := "BenchBrokerLaw", name := "noiseAt", desc := "(LBenchBroker;II[J)I" } : Jvm.MethodName) method_15_code (5 : Nat) (Option.some Jvm.ClassFile.FieldType.int) [((0 : Nat), (10 : Nat), (13 : Nat), (13 : Nat))]) ∈ lw_all := lw_g (lw_at lw_m6 21 rfl) rfl
theorem q1307 : (Jvm.Cond.methodLink "BenchBrokerLaw" (55 : Nat) ({ cls := "BenchBroker", name := "noiseAt", desc := "(II)I" } : Jvm.MethodName)) ∈ lw_all := lw_g (lw_at lw_m6 22 rfl) rfl
theorem q1312 : (Jvm.Cond.methodLink "BenchBrokerLaw" (238 : Nat) ({ cls := "BenchBrokerLaw", name := "noiseBySpreading", desc := "(LBenchBroker;II[J)I" } : Jvm.MethodName)) ∈ lw_all := lw_g (lw_at lw_m6 27 rfl) rfl
theorem q1313 : (Jvm.Cond.static ({ cls := "BenchBrokerLaw", name := "noiseBySpreading", desc := "(LBenchBroker;II[J)I" } : Jvm.MethodName)) ∈ lw_all := lw_g (lw_at lw_m6 28 rfl) rfl
theorem q1314 : (Jvm.Cond.codeWith ({ cls := "BenchBrokerLaw", name := "noiseBySpreading", desc := "(LBenchBroker;II[J)I" } : Jvm.MethodName) method_16_code (5 : Nat) (Option.some Jvm.ClassFile.FieldType.int) [((0 : Nat), (10 : Nat), (13 : Nat), (13 : Nat))]) ∈ lw_all := lw_g (lw_at lw_m6 29 rfl) rfl
theorem q1315 : (Jvm.Cond.methodLink "BenchBrokerLaw" (58 : Nat) ({ cls := "BenchBroker", name := "noiseBySpreading", desc := "(II)I" } : Jvm.MethodName)) ∈ lw_all := lw_g (lw_at lw_m6 30 rfl) rfl
theorem q1323 : (Jvm.Cond.methodLink "BenchBrokerLaw" (241 : Nat) ({ cls := "BenchBrokerLaw", name := "isQuiet", desc := "(LBenchBroker;I[J)I" } : Jvm.MethodName)) ∈ lw_all := lw_g (lw_at lw_m6 38 rfl) rfl
theorem q1324 : (Jvm.Cond.static ({ cls := "BenchBrokerLaw", name := "isQuiet", desc := "(LBenchBroker;I[J)I" } : Jvm.MethodName)) ∈ lw_all := lw_g (lw_at lw_m6 39 rfl) rfl
theorem q1325 : (Jvm.Cond.codeWith ({ cls := "BenchBrokerLaw", name := "isQuiet", desc := "(LBenchBroker;I[J)I" } : Jvm.MethodName) method_17_code (4 : Nat) (Option.some Jvm.ClassFile.FieldType.int) [((0 : Nat), (16 : Nat), (19 : Nat), (13 : Nat))]) ∈ lw_all := lw_g (lw_at lw_m6 40 rfl) rfl
theorem q1326 : (Jvm.Cond.methodLink "BenchBrokerLaw" (61 : Nat) ({ cls := "BenchBroker", name := "isQuiet", desc := "(I)Z" } : Jvm.MethodName)) ∈ lw_all := lw_g (lw_at lw_m6 41 rfl) rfl
theorem q1331 : (Jvm.Cond.methodLink "BenchBrokerLaw" (248 : Nat) ({ cls := "BenchBrokerLaw", name := "addTenant", desc := "(LBenchBroker;I[J)I" } : Jvm.MethodName)) ∈ lw_all := lw_g (lw_at lw_m6 46 rfl) rfl
theorem q1332 : (Jvm.Cond.static ({ cls := "BenchBrokerLaw", name := "addTenant", desc := "(LBenchBroker;I[J)I" } : Jvm.MethodName)) ∈ lw_all := lw_g (lw_at lw_m6 47 rfl) rfl
theorem q1333 : (Jvm.Cond.codeWith ({ cls := "BenchBrokerLaw", name := "addTenant", desc := "(LBenchBroker;I[J)I" } : Jvm.MethodName) method_18_code (4 : Nat) (Option.some Jvm.ClassFile.FieldType.int) [((0 : Nat), (9 : Nat), (12 : Nat), (15 : Nat)), ((0 : Nat), (9 : Nat), (15 : Nat), (17 : Nat))]) ∈ lw_all := lw_g (lw_at lw_m6 48 rfl) rfl
theorem q1334 : (Jvm.Cond.methodLink "BenchBrokerLaw" (64 : Nat) ({ cls := "BenchBroker", name := "addTenant", desc := "(I)I" } : Jvm.MethodName)) ∈ lw_all := lw_g (lw_at lw_m6 49 rfl) rfl
theorem q1341 : (Jvm.Cond.methodLink "BenchBrokerLaw" (251 : Nat) ({ cls := "BenchBrokerLaw", name := "giveCoins", desc := "(LBenchBroker;II[J)I" } : Jvm.MethodName)) ∈ lw_all := lw_g (lw_at lw_m6 56 rfl) rfl
theorem q1342 : (Jvm.Cond.static ({ cls := "BenchBrokerLaw", name := "giveCoins", desc := "(LBenchBroker;II[J)I" } : Jvm.MethodName)) ∈ lw_all := lw_g (lw_at lw_m6 57 rfl) rfl
theorem q1343 : (Jvm.Cond.codeWith ({ cls := "BenchBrokerLaw", name := "giveCoins", desc := "(LBenchBroker;II[J)I" } : Jvm.MethodName) method_19_code (5 : Nat) (Option.some Jvm.ClassFile.FieldType.int) [((0 : Nat), (10 : Nat), (13 : Nat), (13 : Nat)), ((0 : Nat), (10 : Nat), (17 : Nat), (15 : Nat))]) ∈ lw_all := lw_g (lw_at lw_m6 58 rfl) rfl
theorem q1344 : (Jvm.Cond.methodLink "BenchBrokerLaw" (67 : Nat) ({ cls := "BenchBroker", name := "giveCoins", desc := "(II)I" } : Jvm.MethodName)) ∈ lw_all := lw_g (lw_at lw_m6 59 rfl) rfl
theorem q1351 : (Jvm.Cond.methodLink "BenchBrokerLaw" (258 : Nat) ({ cls := "BenchBrokerLaw", name := "coinsOf", desc := "(LBenchBroker;I[J)I" } : Jvm.MethodName)) ∈ lw_all := lw_g (lw_at lw_m6 66 rfl) rfl
theorem q1352 : (Jvm.Cond.static ({ cls := "BenchBrokerLaw", name := "coinsOf", desc := "(LBenchBroker;I[J)I" } : Jvm.MethodName)) ∈ lw_all := lw_g (lw_at lw_m6 67 rfl) rfl
theorem q1353 : (Jvm.Cond.codeWith ({ cls := "BenchBrokerLaw", name := "coinsOf", desc := "(LBenchBroker;I[J)I" } : Jvm.MethodName) method_20_code (4 : Nat) (Option.some Jvm.ClassFile.FieldType.int) [((0 : Nat), (9 : Nat), (12 : Nat), (13 : Nat))]) ∈ lw_all := lw_g (lw_at lw_m6 68 rfl) rfl
theorem q1354 : (Jvm.Cond.methodLink "BenchBrokerLaw" (70 : Nat) ({ cls := "BenchBroker", name := "coinsOf", desc := "(I)I" } : Jvm.MethodName)) ∈ lw_all := lw_g (lw_at lw_m6 69 rfl) rfl
theorem q1363 : (Jvm.Cond.methodLink "BenchBrokerLaw" (261 : Nat) ({ cls := "BenchBrokerLaw", name := "defaultsOf", desc := "(LBenchBroker;I[J)I" } : Jvm.MethodName)) ∈ lw_all := lw_g (lw_at lw_m6 78 rfl) rfl
theorem q1364 : (Jvm.Cond.static ({ cls := "BenchBrokerLaw", name := "defaultsOf", desc := "(LBenchBroker;I[J)I" } : Jvm.MethodName)) ∈ lw_all := lw_g (lw_at lw_m6 79 rfl) rfl
theorem q1365 : (Jvm.Cond.codeWith ({ cls := "BenchBrokerLaw", name := "defaultsOf", desc := "(LBenchBroker;I[J)I" } : Jvm.MethodName) method_21_code (4 : Nat) (Option.some Jvm.ClassFile.FieldType.int) [((0 : Nat), (9 : Nat), (12 : Nat), (13 : Nat))]) ∈ lw_all := lw_g (lw_at lw_m6 80 rfl) rfl
theorem q1366 : (Jvm.Cond.methodLink "BenchBrokerLaw" (73 : Nat) ({ cls := "BenchBroker", name := "defaultsOf", desc := "(I)I" } : Jvm.MethodName)) ∈ lw_all := lw_g (lw_at lw_m6 81 rfl) rfl
theorem q1370 : (Jvm.Cond.methodLink "BenchBrokerLaw" (264 : Nat) ({ cls := "BenchBrokerLaw", name := "benchOf", desc := "(LBenchBroker;I[J)I" } : Jvm.MethodName)) ∈ lw_all := lw_g (lw_at lw_m6 85 rfl) rfl
theorem q1371 : (Jvm.Cond.static ({ cls := "BenchBrokerLaw", name := "benchOf", desc := "(LBenchBroker;I[J)I" } : Jvm.MethodName)) ∈ lw_all := lw_g (lw_at lw_m6 86 rfl) rfl
theorem q1372 : (Jvm.Cond.codeWith ({ cls := "BenchBrokerLaw", name := "benchOf", desc := "(LBenchBroker;I[J)I" } : Jvm.MethodName) method_22_code (4 : Nat) (Option.some Jvm.ClassFile.FieldType.int) [((0 : Nat), (9 : Nat), (12 : Nat), (13 : Nat)), ((0 : Nat), (9 : Nat), (15 : Nat), (79 : Nat))]) ∈ lw_all := lw_g (lw_at lw_m6 87 rfl) rfl
theorem q1373 : (Jvm.Cond.classLink "BenchBrokerLaw" (79 : Nat) "java/util/NoSuchElementException") ∈ lw_all := lw_g (lw_at lw_m6 88 rfl) rfl
theorem q1374 : (Jvm.Cond.methodLink "BenchBrokerLaw" (76 : Nat) ({ cls := "BenchBroker", name := "benchOf", desc := "(I)I" } : Jvm.MethodName)) ∈ lw_all := lw_g (lw_at lw_m6 89 rfl) rfl
theorem q1383 : (Jvm.Cond.methodLink "BenchBrokerLaw" (267 : Nat) ({ cls := "BenchBrokerLaw", name := "canLease", desc := "(LBenchBroker;II[J)I" } : Jvm.MethodName)) ∈ lw_all := lw_g (lw_at lw_m6 98 rfl) rfl
theorem q1384 : (Jvm.Cond.static ({ cls := "BenchBrokerLaw", name := "canLease", desc := "(LBenchBroker;II[J)I" } : Jvm.MethodName)) ∈ lw_all := lw_g (lw_at lw_m6 99 rfl) rfl
theorem q1385 : (Jvm.Cond.codeWith ({ cls := "BenchBrokerLaw", name := "canLease", desc := "(LBenchBroker;II[J)I" } : Jvm.MethodName) method_23_code (5 : Nat) (Option.some Jvm.ClassFile.FieldType.int) [((0 : Nat), (17 : Nat), (20 : Nat), (13 : Nat))]) ∈ lw_all := lw_g (lw_at lw_m6 100 rfl) rfl
theorem q1386 : (Jvm.Cond.methodLink "BenchBrokerLaw" (81 : Nat) ({ cls := "BenchBroker", name := "canLease", desc := "(II)Z" } : Jvm.MethodName)) ∈ lw_all := lw_g (lw_at lw_m6 101 rfl) rfl
theorem q1391 : (Jvm.Cond.methodLink "BenchBrokerLaw" (270 : Nat) ({ cls := "BenchBrokerLaw", name := "cheapestFor", desc := "(LBenchBroker;I[J)I" } : Jvm.MethodName)) ∈ lw_all := lw_g (lw_at lw_m6 106 rfl) rfl
theorem q1392 : (Jvm.Cond.static ({ cls := "BenchBrokerLaw", name := "cheapestFor", desc := "(LBenchBroker;I[J)I" } : Jvm.MethodName)) ∈ lw_all := lw_g (lw_at lw_m6 107 rfl) rfl
theorem q1393 : (Jvm.Cond.codeWith ({ cls := "BenchBrokerLaw", name := "cheapestFor", desc := "(LBenchBroker;I[J)I" } : Jvm.MethodName) method_24_code (4 : Nat) (Option.some Jvm.ClassFile.FieldType.int) [((0 : Nat), (9 : Nat), (12 : Nat), (13 : Nat)), ((0 : Nat), (9 : Nat), (15 : Nat), (79 : Nat))]) ∈ lw_all := lw_g (lw_at lw_m6 108 rfl) rfl
theorem q1394 : (Jvm.Cond.methodLink "BenchBrokerLaw" (85 : Nat) ({ cls := "BenchBroker", name := "cheapestFor", desc := "(I)I" } : Jvm.MethodName)) ∈ lw_all := lw_g (lw_at lw_m6 109 rfl) rfl
theorem q1405 : (Jvm.Cond.methodLink "BenchBrokerLaw" (273 : Nat) ({ cls := "BenchBrokerLaw", name := "lease", desc := "(LBenchBroker;III[J)I" } : Jvm.MethodName)) ∈ lw_all := lw_g (lw_at lw_m6 120 rfl) rfl
theorem q1406 : (Jvm.Cond.static ({ cls := "BenchBrokerLaw", name := "lease", desc := "(LBenchBroker;III[J)I" } : Jvm.MethodName)) ∈ lw_all := lw_g (lw_at lw_m6 121 rfl) rfl
theorem q1407 : (Jvm.Cond.codeWith ({ cls := "BenchBrokerLaw", name := "lease", desc := "(LBenchBroker;III[J)I" } : Jvm.MethodName) method_25_code (6 : Nat) (Option.some Jvm.ClassFile.FieldType.int) [((0 : Nat), (12 : Nat), (15 : Nat), (13 : Nat)), ((0 : Nat), (12 : Nat), (19 : Nat), (15 : Nat)), ((0 : Nat), (12 : Nat), (23 : Nat), (17 : Nat))]) ∈ lw_all := lw_g (lw_at lw_m6 122 rfl) rfl
theorem q1408 : (Jvm.Cond.methodLink "BenchBrokerLaw" (88 : Nat) ({ cls := "BenchBroker", name := "lease", desc := "(III)I" } : Jvm.MethodName)) ∈ lw_all := lw_g (lw_at lw_m6 123 rfl) rfl
theorem q1428 : (Jvm.Cond.methodLink "BenchBrokerLaw" (276 : Nat) ({ cls := "BenchBrokerLaw", name := "endLease", desc := "(LBenchBroker;I[J)I" } : Jvm.MethodName)) ∈ lw_all := lw_g (lw_at lw_m6 143 rfl) rfl
theorem q1429 : (Jvm.Cond.static ({ cls := "BenchBrokerLaw", name := "endLease", desc := "(LBenchBroker;I[J)I" } : Jvm.MethodName)) ∈ lw_all := lw_g (lw_at lw_m6 144 rfl) rfl
theorem q1430 : (Jvm.Cond.codeWith ({ cls := "BenchBrokerLaw", name := "endLease", desc := "(LBenchBroker;I[J)I" } : Jvm.MethodName) method_26_code (4 : Nat) (Option.some Jvm.ClassFile.FieldType.int) [((0 : Nat), (9 : Nat), (12 : Nat), (13 : Nat)), ((0 : Nat), (9 : Nat), (15 : Nat), (17 : Nat))]) ∈ lw_all := lw_g (lw_at lw_m6 145 rfl) rfl
theorem q1431 : (Jvm.Cond.methodLink "BenchBrokerLaw" (91 : Nat) ({ cls := "BenchBroker", name := "endLease", desc := "(I)I" } : Jvm.MethodName)) ∈ lw_all := lw_g (lw_at lw_m6 146 rfl) rfl
theorem q1435 : (Jvm.Cond.methodLink "BenchBrokerLaw" (279 : Nat) ({ cls := "BenchBrokerLaw", name := "renew", desc := "(LBenchBroker;II[J)I" } : Jvm.MethodName)) ∈ lw_all := lw_g (lw_at lw_m6 150 rfl) rfl
theorem q1436 : (Jvm.Cond.static ({ cls := "BenchBrokerLaw", name := "renew", desc := "(LBenchBroker;II[J)I" } : Jvm.MethodName)) ∈ lw_all := lw_g (lw_at lw_m6 151 rfl) rfl
theorem q1437 : (Jvm.Cond.codeWith ({ cls := "BenchBrokerLaw", name := "renew", desc := "(LBenchBroker;II[J)I" } : Jvm.MethodName) method_27_code (5 : Nat) (Option.some Jvm.ClassFile.FieldType.int) [((0 : Nat), (10 : Nat), (13 : Nat), (13 : Nat)), ((0 : Nat), (10 : Nat), (17 : Nat), (15 : Nat)), ((0 : Nat), (10 : Nat), (21 : Nat), (17 : Nat))]) ∈ lw_all := lw_g (lw_at lw_m6 152 rfl) rfl
theorem q1438 : (Jvm.Cond.methodLink "BenchBrokerLaw" (94 : Nat) ({ cls := "BenchBroker", name := "renew", desc := "(II)I" } : Jvm.MethodName)) ∈ lw_all := lw_g (lw_at lw_m6 153 rfl) rfl
theorem q1442 : (Jvm.Cond.methodLink "BenchBrokerLaw" (282 : Nat) ({ cls := "BenchBrokerLaw", name := "isLet", desc := "(LBenchBroker;I[J)I" } : Jvm.MethodName)) ∈ lw_all := lw_g (lw_at lw_m6 157 rfl) rfl
theorem q1443 : (Jvm.Cond.static ({ cls := "BenchBrokerLaw", name := "isLet", desc := "(LBenchBroker;I[J)I" } : Jvm.MethodName)) ∈ lw_all := lw_g (lw_at lw_m6 158 rfl) rfl
theorem q1444 : (Jvm.Cond.codeWith ({ cls := "BenchBrokerLaw", name := "isLet", desc := "(LBenchBroker;I[J)I" } : Jvm.MethodName) method_28_code (4 : Nat) (Option.some Jvm.ClassFile.FieldType.int) [((0 : Nat), (16 : Nat), (19 : Nat), (13 : Nat))]) ∈ lw_all := lw_g (lw_at lw_m6 159 rfl) rfl
theorem q1445 : (Jvm.Cond.methodLink "BenchBrokerLaw" (97 : Nat) ({ cls := "BenchBroker", name := "isLet", desc := "(I)Z" } : Jvm.MethodName)) ∈ lw_all := lw_g (lw_at lw_m6 160 rfl) rfl
theorem q1450 : (Jvm.Cond.methodLink "BenchBrokerLaw" (285 : Nat) ({ cls := "BenchBrokerLaw", name := "tenantOf", desc := "(LBenchBroker;I[J)I" } : Jvm.MethodName)) ∈ lw_all := lw_g (lw_at lw_m6 165 rfl) rfl
theorem q1451 : (Jvm.Cond.static ({ cls := "BenchBrokerLaw", name := "tenantOf", desc := "(LBenchBroker;I[J)I" } : Jvm.MethodName)) ∈ lw_all := lw_g (lw_at lw_m6 166 rfl) rfl
theorem q1452 : (Jvm.Cond.codeWith ({ cls := "BenchBrokerLaw", name := "tenantOf", desc := "(LBenchBroker;I[J)I" } : Jvm.MethodName) method_29_code (4 : Nat) (Option.some Jvm.ClassFile.FieldType.int) [((0 : Nat), (9 : Nat), (12 : Nat), (13 : Nat)), ((0 : Nat), (9 : Nat), (15 : Nat), (79 : Nat))]) ∈ lw_all := lw_g (lw_at lw_m6 167 rfl) rfl
theorem q1453 : (Jvm.Cond.methodLink "BenchBrokerLaw" (100 : Nat) ({ cls := "BenchBroker", name := "tenantOf", desc := "(I)I" } : Jvm.MethodName)) ∈ lw_all := lw_g (lw_at lw_m6 168 rfl) rfl
theorem q1462 : (Jvm.Cond.methodLink "BenchBrokerLaw" (288 : Nat) ({ cls := "BenchBrokerLaw", name := "depositOf", desc := "(LBenchBroker;I[J)I" } : Jvm.MethodName)) ∈ lw_all := lw_g (lw_at lw_m6 177 rfl) rfl
theorem q1463 : (Jvm.Cond.static ({ cls := "BenchBrokerLaw", name := "depositOf", desc := "(LBenchBroker;I[J)I" } : Jvm.MethodName)) ∈ lw_all := lw_g (lw_at lw_m6 178 rfl) rfl
theorem q1464 : (Jvm.Cond.codeWith ({ cls := "BenchBrokerLaw", name := "depositOf", desc := "(LBenchBroker;I[J)I" } : Jvm.MethodName) method_30_code (4 : Nat) (Option.some Jvm.ClassFile.FieldType.int) [((0 : Nat), (9 : Nat), (12 : Nat), (13 : Nat)), ((0 : Nat), (9 : Nat), (15 : Nat), (79 : Nat))]) ∈ lw_all := lw_g (lw_at lw_m6 179 rfl) rfl
theorem q1465 : (Jvm.Cond.methodLink "BenchBrokerLaw" (103 : Nat) ({ cls := "BenchBroker", name := "depositOf", desc := "(I)I" } : Jvm.MethodName)) ∈ lw_all := lw_g (lw_at lw_m6 180 rfl) rfl
theorem q1469 : (Jvm.Cond.methodLink "BenchBrokerLaw" (291 : Nat) ({ cls := "BenchBrokerLaw", name := "monthsLeft", desc := "(LBenchBroker;I[J)I" } : Jvm.MethodName)) ∈ lw_all := lw_g (lw_at lw_m6 184 rfl) rfl
theorem q1470 : (Jvm.Cond.static ({ cls := "BenchBrokerLaw", name := "monthsLeft", desc := "(LBenchBroker;I[J)I" } : Jvm.MethodName)) ∈ lw_all := lw_g (lw_at lw_m6 185 rfl) rfl
theorem q1471 : (Jvm.Cond.codeWith ({ cls := "BenchBrokerLaw", name := "monthsLeft", desc := "(LBenchBroker;I[J)I" } : Jvm.MethodName) method_31_code (4 : Nat) (Option.some Jvm.ClassFile.FieldType.int) [((0 : Nat), (9 : Nat), (12 : Nat), (13 : Nat)), ((0 : Nat), (9 : Nat), (15 : Nat), (79 : Nat))]) ∈ lw_all := lw_g (lw_at lw_m6 186 rfl) rfl
theorem q1472 : (Jvm.Cond.methodLink "BenchBrokerLaw" (106 : Nat) ({ cls := "BenchBroker", name := "monthsLeft", desc := "(I)I" } : Jvm.MethodName)) ∈ lw_all := lw_g (lw_at lw_m6 187 rfl) rfl
theorem q1476 : (Jvm.Cond.methodLink "BenchBrokerLaw" (294 : Nat) ({ cls := "BenchBrokerLaw", name := "defaultMonth", desc := "(LBenchBroker;I[J)I" } : Jvm.MethodName)) ∈ lw_all := lw_g (lw_at lw_m6 191 rfl) rfl
theorem q1477 : (Jvm.Cond.static ({ cls := "BenchBrokerLaw", name := "defaultMonth", desc := "(LBenchBroker;I[J)I" } : Jvm.MethodName)) ∈ lw_all := lw_g (lw_at lw_m6 192 rfl) rfl
theorem q1478 : (Jvm.Cond.codeWith ({ cls := "BenchBrokerLaw", name := "defaultMonth", desc := "(LBenchBroker;I[J)I" } : Jvm.MethodName) method_32_code (4 : Nat) (Option.some Jvm.ClassFile.FieldType.int) [((0 : Nat), (9 : Nat), (12 : Nat), (13 : Nat)), ((0 : Nat), (9 : Nat), (15 : Nat), (79 : Nat))]) ∈ lw_all := lw_g (lw_at lw_m6 193 rfl) rfl
theorem q1479 : (Jvm.Cond.methodLink "BenchBrokerLaw" (109 : Nat) ({ cls := "BenchBroker", name := "defaultMonth", desc := "(I)I" } : Jvm.MethodName)) ∈ lw_all := lw_g (lw_at lw_m6 194 rfl) rfl
theorem q1487 : (Jvm.Cond.methodLink "BenchBrokerLaw" (297 : Nat) ({ cls := "BenchBrokerLaw", name := "passMonths", desc := "(LBenchBroker;I[J)I" } : Jvm.MethodName)) ∈ lw_all := lw_g (lw_at lw_m6 202 rfl) rfl
theorem q1488 : (Jvm.Cond.static ({ cls := "BenchBrokerLaw", name := "passMonths", desc := "(LBenchBroker;I[J)I" } : Jvm.MethodName)) ∈ lw_all := lw_g (lw_at lw_m6 203 rfl) rfl
theorem q1489 : (Jvm.Cond.codeWith ({ cls := "BenchBrokerLaw", name := "passMonths", desc := "(LBenchBroker;I[J)I" } : Jvm.MethodName) method_33_code (4 : Nat) (Option.some Jvm.ClassFile.FieldType.int) [((0 : Nat), (9 : Nat), (12 : Nat), (15 : Nat))]) ∈ lw_all := lw_g (lw_at lw_m6 204 rfl) rfl
theorem q1490 : (Jvm.Cond.methodLink "BenchBrokerLaw" (112 : Nat) ({ cls := "BenchBroker", name := "passMonths", desc := "(I)I" } : Jvm.MethodName)) ∈ lw_all := lw_g (lw_at lw_m6 205 rfl) rfl
theorem q1494 : (Jvm.Cond.methodLink "BenchBrokerLaw" (304 : Nat) ({ cls := "BenchBrokerLaw", name := "incomeWithin", desc := "(LBenchBroker;I[J)I" } : Jvm.MethodName)) ∈ lw_all := lw_g (lw_at lw_m6 209 rfl) rfl
theorem q1495 : (Jvm.Cond.static ({ cls := "BenchBrokerLaw", name := "incomeWithin", desc := "(LBenchBroker;I[J)I" } : Jvm.MethodName)) ∈ lw_all := lw_g (lw_at lw_m6 210 rfl) rfl
theorem q1496 : (Jvm.Cond.codeWith ({ cls := "BenchBrokerLaw", name := "incomeWithin", desc := "(LBenchBroker;I[J)I" } : Jvm.MethodName) method_34_code (4 : Nat) (Option.some Jvm.ClassFile.FieldType.int) [((0 : Nat), (9 : Nat), (12 : Nat), (15 : Nat))]) ∈ lw_all := lw_g (lw_at lw_m6 211 rfl) rfl
theorem q1497 : (Jvm.Cond.methodLink "BenchBrokerLaw" (115 : Nat) ({ cls := "BenchBroker", name := "incomeWithin", desc := "(I)I" } : Jvm.MethodName)) ∈ lw_all := lw_g (lw_at lw_m6 212 rfl) rfl
theorem q1502 : (Jvm.Cond.methodLink "BenchBrokerLaw" (307 : Nat) ({ cls := "BenchBrokerLaw", name := "incomeByLeases", desc := "(LBenchBroker;I[J)I" } : Jvm.MethodName)) ∈ lw_all := lw_g (lw_at lw_m6 217 rfl) rfl
theorem q1503 : (Jvm.Cond.static ({ cls := "BenchBrokerLaw", name := "incomeByLeases", desc := "(LBenchBroker;I[J)I" } : Jvm.MethodName)) ∈ lw_all := lw_g (lw_at lw_m6 218 rfl) rfl
theorem q1504 : (Jvm.Cond.codeWith ({ cls := "BenchBrokerLaw", name := "incomeByLeases", desc := "(LBenchBroker;I[J)I" } : Jvm.MethodName) method_35_code (4 : Nat) (Option.some Jvm.ClassFile.FieldType.int) [((0 : Nat), (9 : Nat), (12 : Nat), (15 : Nat))]) ∈ lw_all := lw_g (lw_at lw_m6 219 rfl) rfl
theorem q1505 : (Jvm.Cond.methodLink "BenchBrokerLaw" (118 : Nat) ({ cls := "BenchBroker", name := "incomeByLeases", desc := "(I)I" } : Jvm.MethodName)) ∈ lw_all := lw_g (lw_at lw_m6 220 rfl) rfl
theorem q1510 : (Jvm.Cond.methodLink "BenchBrokerLaw" (338 : Nat) ({ cls := "BenchBrokerLaw", name := "benchByRent", desc := "(LBenchBroker;I[J)I" } : Jvm.MethodName)) ∈ lw_all := lw_g (lw_at lw_m6 225 rfl) rfl
theorem q1511 : (Jvm.Cond.static ({ cls := "BenchBrokerLaw", name := "benchByRent", desc := "(LBenchBroker;I[J)I" } : Jvm.MethodName)) ∈ lw_all := lw_g (lw_at lw_m6 226 rfl) rfl
theorem q1512 : (Jvm.Cond.codeWith ({ cls := "BenchBrokerLaw", name := "benchByRent", desc := "(LBenchBroker;I[J)I" } : Jvm.MethodName) method_36_code (4 : Nat) (Option.some Jvm.ClassFile.FieldType.int) [((0 : Nat), (9 : Nat), (12 : Nat), (79 : Nat))]) ∈ lw_all := lw_g (lw_at lw_m6 227 rfl) rfl
theorem q1513 : (Jvm.Cond.methodLink "BenchBrokerLaw" (121 : Nat) ({ cls := "BenchBroker", name := "benchByRent", desc := "(I)I" } : Jvm.MethodName)) ∈ lw_all := lw_g (lw_at lw_m6 228 rfl) rfl
theorem q1533 : (Jvm.Cond.methodLink "BenchBrokerLaw" (341 : Nat) ({ cls := "BenchBrokerLaw", name := "tenantByCoins", desc := "(LBenchBroker;I[J)I" } : Jvm.MethodName)) ∈ lw_all := lw_g (lw_at lw_m7 8 rfl) rfl
theorem q1534 : (Jvm.Cond.static ({ cls := "BenchBrokerLaw", name := "tenantByCoins", desc := "(LBenchBroker;I[J)I" } : Jvm.MethodName)) ∈ lw_all := lw_g (lw_at lw_m7 9 rfl) rfl
theorem q1535 : (Jvm.Cond.codeWith ({ cls := "BenchBrokerLaw", name := "tenantByCoins", desc := "(LBenchBroker;I[J)I" } : Jvm.MethodName) method_37_code (4 : Nat) (Option.some Jvm.ClassFile.FieldType.int) [((0 : Nat), (9 : Nat), (12 : Nat), (79 : Nat))]) ∈ lw_all := lw_g (lw_at lw_m7 10 rfl) rfl
theorem q1536 : (Jvm.Cond.methodLink "BenchBrokerLaw" (124 : Nat) ({ cls := "BenchBroker", name := "tenantByCoins", desc := "(I)I" } : Jvm.MethodName)) ∈ lw_all := lw_g (lw_at lw_m7 11 rfl) rfl
theorem q1546 : (Jvm.Cond.methodLink "BenchBrokerLaw" (344 : Nat) ({ cls := "BenchBrokerLaw", name := "meanRent", desc := "(LBenchBroker;[D)I" } : Jvm.MethodName)) ∈ lw_all := lw_g (lw_at lw_m7 21 rfl) rfl
theorem q1547 : (Jvm.Cond.static ({ cls := "BenchBrokerLaw", name := "meanRent", desc := "(LBenchBroker;[D)I" } : Jvm.MethodName)) ∈ lw_all := lw_g (lw_at lw_m7 22 rfl) rfl
theorem q1548 : (Jvm.Cond.codeWith ({ cls := "BenchBrokerLaw", name := "meanRent", desc := "(LBenchBroker;[D)I" } : Jvm.MethodName) method_38_code (3 : Nat) (Option.some Jvm.ClassFile.FieldType.int) [((0 : Nat), (7 : Nat), (10 : Nat), (131 : Nat))]) ∈ lw_all := lw_g (lw_at lw_m7 23 rfl) rfl
theorem q1549 : (Jvm.Cond.classLink "BenchBrokerLaw" (131 : Nat) "java/lang/ArithmeticException") ∈ lw_all := lw_g (lw_at lw_m7 24 rfl) rfl
theorem q1563 : (Jvm.Cond.methodLink "BenchBrokerLaw" (127 : Nat) ({ cls := "BenchBroker", name := "meanRent", desc := "()D" } : Jvm.MethodName)) ∈ lw_all := lw_g (lw_at lw_m7 38 rfl) rfl
theorem q1583 : (Jvm.Cond.methodLink "BenchBrokerLaw" (348 : Nat) ({ cls := "BenchBrokerLaw", name := "letShare", desc := "(LBenchBroker;[D)I" } : Jvm.MethodName)) ∈ lw_all := lw_g (lw_at lw_m7 58 rfl) rfl
theorem q1584 : (Jvm.Cond.static ({ cls := "BenchBrokerLaw", name := "letShare", desc := "(LBenchBroker;[D)I" } : Jvm.MethodName)) ∈ lw_all := lw_g (lw_at lw_m7 59 rfl) rfl
theorem q1585 : (Jvm.Cond.codeWith ({ cls := "BenchBrokerLaw", name := "letShare", desc := "(LBenchBroker;[D)I" } : Jvm.MethodName) method_39_code (3 : Nat) (Option.some Jvm.ClassFile.FieldType.int) [((0 : Nat), (8 : Nat), (11 : Nat), (131 : Nat))]) ∈ lw_all := lw_g (lw_at lw_m7 60 rfl) rfl
theorem q1586 : (Jvm.Cond.methodLink "BenchBrokerLaw" (133 : Nat) ({ cls := "BenchBroker", name := "letShare", desc := "()F" } : Jvm.MethodName)) ∈ lw_all := lw_g (lw_at lw_m7 61 rfl) rfl
theorem q1591 : (Jvm.Cond.methodLink "BenchBrokerLaw" (356 : Nat) ({ cls := "BenchBrokerLaw", name := "writeBench", desc := "(LBenchBroker;I[J)I" } : Jvm.MethodName)) ∈ lw_all := lw_g (lw_at lw_m7 66 rfl) rfl
theorem q1592 : (Jvm.Cond.static ({ cls := "BenchBrokerLaw", name := "writeBench", desc := "(LBenchBroker;I[J)I" } : Jvm.MethodName)) ∈ lw_all := lw_g (lw_at lw_m7 67 rfl) rfl
theorem q1593 : (Jvm.Cond.codeWith ({ cls := "BenchBrokerLaw", name := "writeBench", desc := "(LBenchBroker;I[J)I" } : Jvm.MethodName) method_40_code (4 : Nat) (Option.some Jvm.ClassFile.FieldType.int) [((0 : Nat), (9 : Nat), (12 : Nat), (13 : Nat))]) ∈ lw_all := lw_g (lw_at lw_m7 68 rfl) rfl
theorem q1594 : (Jvm.Cond.methodLink "BenchBrokerLaw" (137 : Nat) ({ cls := "BenchBroker", name := "writeBench", desc := "(I)I" } : Jvm.MethodName)) ∈ lw_all := lw_g (lw_at lw_m7 69 rfl) rfl
theorem q1819 : (Jvm.Cond.methodLink "BenchBrokerLaw" (359 : Nat) ({ cls := "BenchBrokerLaw", name := "writeRow", desc := "(LBenchBroker;I[J)I" } : Jvm.MethodName)) ∈ lw_all := lw_g (lw_at lw_m8 54 rfl) rfl
theorem q1820 : (Jvm.Cond.static ({ cls := "BenchBrokerLaw", name := "writeRow", desc := "(LBenchBroker;I[J)I" } : Jvm.MethodName)) ∈ lw_all := lw_g (lw_at lw_m8 55 rfl) rfl
theorem q1821 : (Jvm.Cond.codeWith ({ cls := "BenchBrokerLaw", name := "writeRow", desc := "(LBenchBroker;I[J)I" } : Jvm.MethodName) method_41_code (4 : Nat) (Option.some Jvm.ClassFile.FieldType.int) [((0 : Nat), (9 : Nat), (12 : Nat), (13 : Nat))]) ∈ lw_all := lw_g (lw_at lw_m8 56 rfl) rfl
theorem q1822 : (Jvm.Cond.methodLink "BenchBrokerLaw" (140 : Nat) ({ cls := "BenchBroker", name := "writeRow", desc := "(I)I" } : Jvm.MethodName)) ∈ lw_all := lw_g (lw_at lw_m8 57 rfl) rfl
theorem q1840 : (Jvm.Cond.methodLink "BenchBrokerLaw" (362 : Nat) ({ cls := "BenchBrokerLaw", name := "outputAt", desc := "(LBenchBroker;I[J)I" } : Jvm.MethodName)) ∈ lw_all := lw_g (lw_at lw_m8 75 rfl) rfl
theorem q1841 : (Jvm.Cond.static ({ cls := "BenchBrokerLaw", name := "outputAt", desc := "(LBenchBroker;I[J)I" } : Jvm.MethodName)) ∈ lw_all := lw_g (lw_at lw_m8 76 rfl) rfl
theorem q1842 : (Jvm.Cond.codeWith ({ cls := "BenchBrokerLaw", name := "outputAt", desc := "(LBenchBroker;I[J)I" } : Jvm.MethodName) method_42_code (4 : Nat) (Option.some Jvm.ClassFile.FieldType.int) [((0 : Nat), (9 : Nat), (12 : Nat), (13 : Nat))]) ∈ lw_all := lw_g (lw_at lw_m8 77 rfl) rfl
theorem q1843 : (Jvm.Cond.methodLink "BenchBrokerLaw" (143 : Nat) ({ cls := "BenchBroker", name := "outputAt", desc := "(I)C" } : Jvm.MethodName)) ∈ lw_all := lw_g (lw_at lw_m8 78 rfl) rfl
theorem q1862 : (Jvm.Cond.methodLink "BenchBrokerLaw" (365 : Nat) ({ cls := "BenchBrokerLaw", name := "appendInput", desc := "(LBenchBroker;C[J)I" } : Jvm.MethodName)) ∈ lw_all := lw_g (lw_at lw_m8 97 rfl) rfl
theorem q1863 : (Jvm.Cond.static ({ cls := "BenchBrokerLaw", name := "appendInput", desc := "(LBenchBroker;C[J)I" } : Jvm.MethodName)) ∈ lw_all := lw_g (lw_at lw_m8 98 rfl) rfl
theorem q1864 : (Jvm.Cond.codeWith ({ cls := "BenchBrokerLaw", name := "appendInput", desc := "(LBenchBroker;C[J)I" } : Jvm.MethodName) method_43_code (4 : Nat) (Option.some Jvm.ClassFile.FieldType.int) [((0 : Nat), (9 : Nat), (12 : Nat), (15 : Nat)), ((0 : Nat), (9 : Nat), (15 : Nat), (151 : Nat))]) ∈ lw_all := lw_g (lw_at lw_m8 99 rfl) rfl
theorem q1865 : (Jvm.Cond.classLink "BenchBrokerLaw" (151 : Nat) "java/lang/IllegalStateException") ∈ lw_all := lw_g (lw_at lw_m8 100 rfl) rfl
theorem q1866 : (Jvm.Cond.methodLink "BenchBrokerLaw" (147 : Nat) ({ cls := "BenchBroker", name := "appendInput", desc := "(C)I" } : Jvm.MethodName)) ∈ lw_all := lw_g (lw_at lw_m8 101 rfl) rfl
theorem q1879 : (Jvm.Cond.methodLink "BenchBrokerLaw" (369 : Nat) ({ cls := "BenchBrokerLaw", name := "execute", desc := "(LBenchBroker;[J)I" } : Jvm.MethodName)) ∈ lw_all := lw_g (lw_at lw_m8 114 rfl) rfl
theorem q1880 : (Jvm.Cond.static ({ cls := "BenchBrokerLaw", name := "execute", desc := "(LBenchBroker;[J)I" } : Jvm.MethodName)) ∈ lw_all := lw_g (lw_at lw_m8 115 rfl) rfl
theorem q1881 : (Jvm.Cond.codeWith ({ cls := "BenchBrokerLaw", name := "execute", desc := "(LBenchBroker;[J)I" } : Jvm.MethodName) method_44_code (3 : Nat) (Option.some Jvm.ClassFile.FieldType.int) [((0 : Nat), (8 : Nat), (11 : Nat), (15 : Nat)), ((0 : Nat), (8 : Nat), (14 : Nat), (151 : Nat)), ((0 : Nat), (8 : Nat), (17 : Nat), (17 : Nat))]) ∈ lw_all := lw_g (lw_at lw_m8 116 rfl) rfl
theorem q1882 : (Jvm.Cond.methodLink "BenchBrokerLaw" (153 : Nat) ({ cls := "BenchBroker", name := "execute", desc := "()I" } : Jvm.MethodName)) ∈ lw_all := lw_g (lw_at lw_m8 117 rfl) rfl
theorem q2139 : (Jvm.Cond.methodLink "BenchBrokerLaw" (373 : Nat) ({ cls := "BenchBrokerLaw", name := "syntaxErrorOffset", desc := "(LBenchBroker;[J)I" } : Jvm.MethodName)) ∈ lw_all := lw_g (lw_at lw_m9 134 rfl) rfl
theorem q2140 : (Jvm.Cond.static ({ cls := "BenchBrokerLaw", name := "syntaxErrorOffset", desc := "(LBenchBroker;[J)I" } : Jvm.MethodName)) ∈ lw_all := lw_g (lw_at lw_m9 135 rfl) rfl
theorem q2141 : (Jvm.Cond.codeWith ({ cls := "BenchBrokerLaw", name := "syntaxErrorOffset", desc := "(LBenchBroker;[J)I" } : Jvm.MethodName) method_45_code (3 : Nat) (Option.some Jvm.ClassFile.FieldType.int) [((0 : Nat), (8 : Nat), (11 : Nat), (79 : Nat))]) ∈ lw_all := lw_g (lw_at lw_m9 136 rfl) rfl
theorem q2142 : (Jvm.Cond.methodLink "BenchBrokerLaw" (157 : Nat) ({ cls := "BenchBroker", name := "syntaxErrorOffset", desc := "()I" } : Jvm.MethodName)) ∈ lw_all := lw_g (lw_at lw_m9 137 rfl) rfl
theorem q2146 : (Jvm.Cond.methodLink "BenchBrokerLaw" (376 : Nat) ({ cls := "BenchBrokerLaw", name := "rejectionReason", desc := "(LBenchBroker;[J)I" } : Jvm.MethodName)) ∈ lw_all := lw_g (lw_at lw_m9 141 rfl) rfl
theorem q2147 : (Jvm.Cond.static ({ cls := "BenchBrokerLaw", name := "rejectionReason", desc := "(LBenchBroker;[J)I" } : Jvm.MethodName)) ∈ lw_all := lw_g (lw_at lw_m9 142 rfl) rfl
theorem q2148 : (Jvm.Cond.codeWith ({ cls := "BenchBrokerLaw", name := "rejectionReason", desc := "(LBenchBroker;[J)I" } : Jvm.MethodName) method_46_code (3 : Nat) (Option.some Jvm.ClassFile.FieldType.int) [((0 : Nat), (8 : Nat), (11 : Nat), (79 : Nat))]) ∈ lw_all := lw_g (lw_at lw_m9 143 rfl) rfl
theorem q2149 : (Jvm.Cond.methodLink "BenchBrokerLaw" (160 : Nat) ({ cls := "BenchBroker", name := "rejectionReason", desc := "()I" } : Jvm.MethodName)) ∈ lw_all := lw_g (lw_at lw_m9 144 rfl) rfl
theorem q2153 : (Jvm.Cond.methodLink "BenchBrokerLaw" (379 : Nat) ({ cls := "BenchBrokerLaw", name := "rejectionDetail", desc := "(LBenchBroker;[J)I" } : Jvm.MethodName)) ∈ lw_all := lw_g (lw_at lw_m9 148 rfl) rfl
theorem q2154 : (Jvm.Cond.static ({ cls := "BenchBrokerLaw", name := "rejectionDetail", desc := "(LBenchBroker;[J)I" } : Jvm.MethodName)) ∈ lw_all := lw_g (lw_at lw_m9 149 rfl) rfl
theorem q2155 : (Jvm.Cond.codeWith ({ cls := "BenchBrokerLaw", name := "rejectionDetail", desc := "(LBenchBroker;[J)I" } : Jvm.MethodName) method_47_code (3 : Nat) (Option.some Jvm.ClassFile.FieldType.int) [((0 : Nat), (8 : Nat), (11 : Nat), (79 : Nat))]) ∈ lw_all := lw_g (lw_at lw_m9 150 rfl) rfl
theorem q2156 : (Jvm.Cond.methodLink "BenchBrokerLaw" (163 : Nat) ({ cls := "BenchBroker", name := "rejectionDetail", desc := "()I" } : Jvm.MethodName)) ∈ lw_all := lw_g (lw_at lw_m9 151 rfl) rfl
theorem q2160 : (Jvm.Cond.methodLink "BenchBrokerLaw" (382 : Nat) ({ cls := "BenchBrokerLaw", name := "causeReason", desc := "(LBenchBroker;[J)I" } : Jvm.MethodName)) ∈ lw_all := lw_g (lw_at lw_m9 155 rfl) rfl
theorem q2161 : (Jvm.Cond.static ({ cls := "BenchBrokerLaw", name := "causeReason", desc := "(LBenchBroker;[J)I" } : Jvm.MethodName)) ∈ lw_all := lw_g (lw_at lw_m9 156 rfl) rfl
theorem q2162 : (Jvm.Cond.codeWith ({ cls := "BenchBrokerLaw", name := "causeReason", desc := "(LBenchBroker;[J)I" } : Jvm.MethodName) method_48_code (3 : Nat) (Option.some Jvm.ClassFile.FieldType.int) [((0 : Nat), (8 : Nat), (11 : Nat), (79 : Nat))]) ∈ lw_all := lw_g (lw_at lw_m9 157 rfl) rfl
theorem q2163 : (Jvm.Cond.methodLink "BenchBrokerLaw" (166 : Nat) ({ cls := "BenchBroker", name := "causeReason", desc := "()I" } : Jvm.MethodName)) ∈ lw_all := lw_g (lw_at lw_m9 158 rfl) rfl
theorem q2167 : (Jvm.Cond.methodLink "BenchBrokerLaw" (385 : Nat) ({ cls := "BenchBrokerLaw", name := "undo", desc := "(LBenchBroker;[J)I" } : Jvm.MethodName)) ∈ lw_all := lw_g (lw_at lw_m9 162 rfl) rfl
theorem q2168 : (Jvm.Cond.static ({ cls := "BenchBrokerLaw", name := "undo", desc := "(LBenchBroker;[J)I" } : Jvm.MethodName)) ∈ lw_all := lw_g (lw_at lw_m9 163 rfl) rfl
theorem q2169 : (Jvm.Cond.codeWith ({ cls := "BenchBrokerLaw", name := "undo", desc := "(LBenchBroker;[J)I" } : Jvm.MethodName) method_49_code (3 : Nat) (Option.some Jvm.ClassFile.FieldType.int) [((0 : Nat), (8 : Nat), (11 : Nat), (151 : Nat))]) ∈ lw_all := lw_g (lw_at lw_m9 164 rfl) rfl
theorem q2170 : (Jvm.Cond.methodLink "BenchBrokerLaw" (169 : Nat) ({ cls := "BenchBroker", name := "undo", desc := "()I" } : Jvm.MethodName)) ∈ lw_all := lw_g (lw_at lw_m9 165 rfl) rfl
theorem q2174 : (Jvm.Cond.methodLink "BenchBrokerLaw" (392 : Nat) ({ cls := "BenchBrokerLaw", name := "restoreSnapshot", desc := "(LBenchBroker;[J)I" } : Jvm.MethodName)) ∈ lw_all := lw_g (lw_at lw_m9 169 rfl) rfl
theorem q2175 : (Jvm.Cond.static ({ cls := "BenchBrokerLaw", name := "restoreSnapshot", desc := "(LBenchBroker;[J)I" } : Jvm.MethodName)) ∈ lw_all := lw_g (lw_at lw_m9 170 rfl) rfl
theorem q2176 : (Jvm.Cond.codeWith ({ cls := "BenchBrokerLaw", name := "restoreSnapshot", desc := "(LBenchBroker;[J)I" } : Jvm.MethodName) method_50_code (3 : Nat) (Option.some Jvm.ClassFile.FieldType.int) [((0 : Nat), (8 : Nat), (11 : Nat), (151 : Nat))]) ∈ lw_all := lw_g (lw_at lw_m9 171 rfl) rfl
theorem q2177 : (Jvm.Cond.methodLink "BenchBrokerLaw" (172 : Nat) ({ cls := "BenchBroker", name := "restoreSnapshot", desc := "()I" } : Jvm.MethodName)) ∈ lw_all := lw_g (lw_at lw_m9 172 rfl) rfl
theorem q2185 : (Jvm.Cond.classLink "BenchBrokerLaw" (176 : Nat) "BenchBrokerModel") ∈ lw_all := lw_g (lw_at lw_m9 180 rfl) rfl
theorem q2187 : (Jvm.Cond.methodLink "BenchBrokerLaw" (178 : Nat) ({ cls := "BenchBrokerModel", name := "<init>", desc := "()V" } : Jvm.MethodName)) ∈ lw_all := lw_g (lw_at lw_m9 182 rfl) rfl
theorem q2261 : (Jvm.Cond.methodLink "BenchBrokerLaw" (185 : Nat) ({ cls := "BenchBrokerModel", name := "thrown", desc := "()I" } : Jvm.MethodName)) ∈ lw_all := lw_g (lw_at lw_m10 16 rfl) rfl
theorem q2265 : (Jvm.Cond.methodLink "BenchBrokerLaw" (184 : Nat) ({ cls := "BenchBrokerModel", name := "addBench", desc := "(III)I" } : Jvm.MethodName)) ∈ lw_all := lw_g (lw_at lw_m10 20 rfl) rfl
theorem q2315 : (Jvm.Cond.methodLink "BenchBrokerLaw" (191 : Nat) ({ cls := "BenchBrokerModel", name := "setRent", desc := "(II)I" } : Jvm.MethodName)) ∈ lw_all := lw_g (lw_at lw_m10 70 rfl) rfl
theorem q2327 : (Jvm.Cond.methodLink "BenchBrokerLaw" (194 : Nat) ({ cls := "BenchBrokerModel", name := "addFountain", desc := "(III)I" } : Jvm.MethodName)) ∈ lw_all := lw_g (lw_at lw_m10 82 rfl) rfl
theorem q2335 : (Jvm.Cond.methodLink "BenchBrokerLaw" (197 : Nat) ({ cls := "BenchBrokerModel", name := "setLoudness", desc := "(II)I" } : Jvm.MethodName)) ∈ lw_all := lw_g (lw_at lw_m10 90 rfl) rfl
theorem q2347 : (Jvm.Cond.methodLink "BenchBrokerLaw" (201 : Nat) ({ cls := "BenchBrokerModel", name := "switchFountain", desc := "(I)Z" } : Jvm.MethodName)) ∈ lw_all := lw_g (lw_at lw_m10 102 rfl) rfl
theorem q2355 : (Jvm.Cond.methodLink "BenchBrokerLaw" (204 : Nat) ({ cls := "BenchBrokerModel", name := "setNoiseLimit", desc := "(I)I" } : Jvm.MethodName)) ∈ lw_all := lw_g (lw_at lw_m10 110 rfl) rfl
theorem q2363 : (Jvm.Cond.methodLink "BenchBrokerLaw" (208 : Nat) ({ cls := "BenchBrokerModel", name := "benchCount", desc := "()I" } : Jvm.MethodName)) ∈ lw_all := lw_g (lw_at lw_m10 118 rfl) rfl
theorem q2367 : (Jvm.Cond.methodLink "BenchBrokerLaw" (211 : Nat) ({ cls := "BenchBrokerModel", name := "rowOf", desc := "(I)I" } : Jvm.MethodName)) ∈ lw_all := lw_g (lw_at lw_m10 122 rfl) rfl
theorem q2375 : (Jvm.Cond.methodLink "BenchBrokerLaw" (214 : Nat) ({ cls := "BenchBrokerModel", name := "columnOf", desc := "(I)I" } : Jvm.MethodName)) ∈ lw_all := lw_g (lw_at lw_m10 130 rfl) rfl
theorem q2379 : (Jvm.Cond.methodLink "BenchBrokerLaw" (217 : Nat) ({ cls := "BenchBrokerModel", name := "baseRent", desc := "(I)I" } : Jvm.MethodName)) ∈ lw_all := lw_g (lw_at lw_m10 134 rfl) rfl
theorem q2383 : (Jvm.Cond.methodLink "BenchBrokerLaw" (220 : Nat) ({ cls := "BenchBrokerModel", name := "rentOf", desc := "(I)I" } : Jvm.MethodName)) ∈ lw_all := lw_g (lw_at lw_m10 138 rfl) rfl
theorem q2402 : (Jvm.Cond.methodLink "BenchBrokerLaw" (224 : Nat) ({ cls := "BenchBrokerModel", name := "fountainCount", desc := "()I" } : Jvm.MethodName)) ∈ lw_all := lw_g (lw_at lw_m10 157 rfl) rfl
theorem q2406 : (Jvm.Cond.methodLink "BenchBrokerLaw" (227 : Nat) ({ cls := "BenchBrokerModel", name := "loudnessOf", desc := "(I)I" } : Jvm.MethodName)) ∈ lw_all := lw_g (lw_at lw_m10 161 rfl) rfl
theorem q2410 : (Jvm.Cond.methodLink "BenchBrokerLaw" (230 : Nat) ({ cls := "BenchBrokerModel", name := "isRunning", desc := "(I)Z" } : Jvm.MethodName)) ∈ lw_all := lw_g (lw_at lw_m10 165 rfl) rfl
theorem q2414 : (Jvm.Cond.methodLink "BenchBrokerLaw" (234 : Nat) ({ cls := "BenchBrokerModel", name := "noiseLimit", desc := "()I" } : Jvm.MethodName)) ∈ lw_all := lw_g (lw_at lw_m10 169 rfl) rfl
theorem q2418 : (Jvm.Cond.methodLink "BenchBrokerLaw" (237 : Nat) ({ cls := "BenchBrokerModel", name := "noiseAt", desc := "(II)I" } : Jvm.MethodName)) ∈ lw_all := lw_g (lw_at lw_m10 173 rfl) rfl
theorem q2422 : (Jvm.Cond.methodLink "BenchBrokerLaw" (240 : Nat) ({ cls := "BenchBrokerModel", name := "noiseBySpreading", desc := "(II)I" } : Jvm.MethodName)) ∈ lw_all := lw_g (lw_at lw_m10 177 rfl) rfl
theorem q2427 : (Jvm.Cond.methodLink "BenchBrokerLaw" (243 : Nat) ({ cls := "BenchBrokerModel", name := "isQuiet", desc := "(I)Z" } : Jvm.MethodName)) ∈ lw_all := lw_g (lw_at lw_m10 182 rfl) rfl
theorem q2435 : (Jvm.Cond.methodLink "BenchBrokerLaw" (247 : Nat) ({ cls := "BenchBrokerModel", name := "quietCount", desc := "()I" } : Jvm.MethodName)) ∈ lw_all := lw_g (lw_at lw_m10 190 rfl) rfl
theorem q2439 : (Jvm.Cond.methodLink "BenchBrokerLaw" (250 : Nat) ({ cls := "BenchBrokerModel", name := "addTenant", desc := "(I)I" } : Jvm.MethodName)) ∈ lw_all := lw_g (lw_at lw_m10 194 rfl) rfl
theorem q2447 : (Jvm.Cond.methodLink "BenchBrokerLaw" (253 : Nat) ({ cls := "BenchBrokerModel", name := "giveCoins", desc := "(II)I" } : Jvm.MethodName)) ∈ lw_all := lw_g (lw_at lw_m10 202 rfl) rfl
theorem q2463 : (Jvm.Cond.methodLink "BenchBrokerLaw" (257 : Nat) ({ cls := "BenchBrokerModel", name := "tenantCount", desc := "()I" } : Jvm.MethodName)) ∈ lw_all := lw_g (lw_at lw_m10 218 rfl) rfl
theorem q2467 : (Jvm.Cond.methodLink "BenchBrokerLaw" (260 : Nat) ({ cls := "BenchBrokerModel", name := "coinsOf", desc := "(I)I" } : Jvm.MethodName)) ∈ lw_all := lw_g (lw_at lw_m10 222 rfl) rfl
theorem q2475 : (Jvm.Cond.methodLink "BenchBrokerLaw" (263 : Nat) ({ cls := "BenchBrokerModel", name := "defaultsOf", desc := "(I)I" } : Jvm.MethodName)) ∈ lw_all := lw_g (lw_at lw_m10 230 rfl) rfl
theorem q2479 : (Jvm.Cond.methodLink "BenchBrokerLaw" (266 : Nat) ({ cls := "BenchBrokerModel", name := "benchOf", desc := "(I)I" } : Jvm.MethodName)) ∈ lw_all := lw_g (lw_at lw_m10 234 rfl) rfl
theorem q2491 : (Jvm.Cond.methodLink "BenchBrokerLaw" (269 : Nat) ({ cls := "BenchBrokerModel", name := "canLease", desc := "(II)Z" } : Jvm.MethodName)) ∈ lw_all := lw_g (lw_at lw_m11 6 rfl) rfl
theorem q2499 : (Jvm.Cond.methodLink "BenchBrokerLaw" (272 : Nat) ({ cls := "BenchBrokerModel", name := "cheapestFor", desc := "(I)I" } : Jvm.MethodName)) ∈ lw_all := lw_g (lw_at lw_m11 14 rfl) rfl
theorem q2503 : (Jvm.Cond.methodLink "BenchBrokerLaw" (275 : Nat) ({ cls := "BenchBrokerModel", name := "lease", desc := "(III)I" } : Jvm.MethodName)) ∈ lw_all := lw_g (lw_at lw_m11 18 rfl) rfl
theorem q2511 : (Jvm.Cond.methodLink "BenchBrokerLaw" (278 : Nat) ({ cls := "BenchBrokerModel", name := "endLease", desc := "(I)I" } : Jvm.MethodName)) ∈ lw_all := lw_g (lw_at lw_m11 26 rfl) rfl
theorem q2523 : (Jvm.Cond.methodLink "BenchBrokerLaw" (281 : Nat) ({ cls := "BenchBrokerModel", name := "renew", desc := "(II)I" } : Jvm.MethodName)) ∈ lw_all := lw_g (lw_at lw_m11 38 rfl) rfl
theorem q2531 : (Jvm.Cond.methodLink "BenchBrokerLaw" (284 : Nat) ({ cls := "BenchBrokerModel", name := "isLet", desc := "(I)Z" } : Jvm.MethodName)) ∈ lw_all := lw_g (lw_at lw_m11 46 rfl) rfl
theorem q2535 : (Jvm.Cond.methodLink "BenchBrokerLaw" (287 : Nat) ({ cls := "BenchBrokerModel", name := "tenantOf", desc := "(I)I" } : Jvm.MethodName)) ∈ lw_all := lw_g (lw_at lw_m11 50 rfl) rfl
theorem q2543 : (Jvm.Cond.methodLink "BenchBrokerLaw" (290 : Nat) ({ cls := "BenchBrokerModel", name := "depositOf", desc := "(I)I" } : Jvm.MethodName)) ∈ lw_all := lw_g (lw_at lw_m11 58 rfl) rfl
theorem q2547 : (Jvm.Cond.methodLink "BenchBrokerLaw" (293 : Nat) ({ cls := "BenchBrokerModel", name := "monthsLeft", desc := "(I)I" } : Jvm.MethodName)) ∈ lw_all := lw_g (lw_at lw_m11 62 rfl) rfl
theorem q2551 : (Jvm.Cond.methodLink "BenchBrokerLaw" (296 : Nat) ({ cls := "BenchBrokerModel", name := "defaultMonth", desc := "(I)I" } : Jvm.MethodName)) ∈ lw_all := lw_g (lw_at lw_m11 66 rfl) rfl
theorem q2555 : (Jvm.Cond.methodLink "BenchBrokerLaw" (299 : Nat) ({ cls := "BenchBrokerModel", name := "passMonths", desc := "(I)I" } : Jvm.MethodName)) ∈ lw_all := lw_g (lw_at lw_m11 70 rfl) rfl
theorem q2567 : (Jvm.Cond.methodLink "BenchBrokerLaw" (303 : Nat) ({ cls := "BenchBrokerModel", name := "month", desc := "()I" } : Jvm.MethodName)) ∈ lw_all := lw_g (lw_at lw_m11 82 rfl) rfl
theorem q2571 : (Jvm.Cond.methodLink "BenchBrokerLaw" (306 : Nat) ({ cls := "BenchBrokerModel", name := "incomeWithin", desc := "(I)I" } : Jvm.MethodName)) ∈ lw_all := lw_g (lw_at lw_m11 86 rfl) rfl
theorem q2575 : (Jvm.Cond.methodLink "BenchBrokerLaw" (309 : Nat) ({ cls := "BenchBrokerModel", name := "incomeByLeases", desc := "(I)I" } : Jvm.MethodName)) ∈ lw_all := lw_g (lw_at lw_m11 90 rfl) rfl
theorem q2580 : (Jvm.Cond.methodLink "BenchBrokerLaw" (313 : Nat) ({ cls := "BenchBrokerModel", name := "brokerCoins", desc := "()I" } : Jvm.MethodName)) ∈ lw_all := lw_g (lw_at lw_m11 95 rfl) rfl
theorem q2584 : (Jvm.Cond.methodLink "BenchBrokerLaw" (317 : Nat) ({ cls := "BenchBrokerModel", name := "depositTotal", desc := "()I" } : Jvm.MethodName)) ∈ lw_all := lw_g (lw_at lw_m11 99 rfl) rfl
theorem q2592 : (Jvm.Cond.methodLink "BenchBrokerLaw" (321 : Nat) ({ cls := "BenchBrokerModel", name := "allCoins", desc := "()I" } : Jvm.MethodName)) ∈ lw_all := lw_g (lw_at lw_m11 107 rfl) rfl
theorem q2596 : (Jvm.Cond.methodLink "BenchBrokerLaw" (325 : Nat) ({ cls := "BenchBrokerModel", name := "allCoinsGiven", desc := "()I" } : Jvm.MethodName)) ∈ lw_all := lw_g (lw_at lw_m11 111 rfl) rfl
theorem q2600 : (Jvm.Cond.methodLink "BenchBrokerLaw" (329 : Nat) ({ cls := "BenchBrokerModel", name := "defaultedLeases", desc := "()I" } : Jvm.MethodName)) ∈ lw_all := lw_g (lw_at lw_m11 115 rfl) rfl
theorem q2604 : (Jvm.Cond.methodLink "BenchBrokerLaw" (333 : Nat) ({ cls := "BenchBrokerModel", name := "terminatedLeases", desc := "()I" } : Jvm.MethodName)) ∈ lw_all := lw_g (lw_at lw_m11 119 rfl) rfl
theorem q2608 : (Jvm.Cond.methodLink "BenchBrokerLaw" (337 : Nat) ({ cls := "BenchBrokerModel", name := "completedLeases", desc := "()I" } : Jvm.MethodName)) ∈ lw_all := lw_g (lw_at lw_m11 123 rfl) rfl
theorem q2612 : (Jvm.Cond.methodLink "BenchBrokerLaw" (340 : Nat) ({ cls := "BenchBrokerModel", name := "benchByRent", desc := "(I)I" } : Jvm.MethodName)) ∈ lw_all := lw_g (lw_at lw_m11 127 rfl) rfl
theorem q2620 : (Jvm.Cond.methodLink "BenchBrokerLaw" (343 : Nat) ({ cls := "BenchBrokerModel", name := "tenantByCoins", desc := "(I)I" } : Jvm.MethodName)) ∈ lw_all := lw_g (lw_at lw_m11 135 rfl) rfl
theorem q2628 : (Jvm.Cond.methodLink "BenchBrokerLaw" (347 : Nat) ({ cls := "BenchBrokerModel", name := "meanRent", desc := "()D" } : Jvm.MethodName)) ∈ lw_all := lw_g (lw_at lw_m11 143 rfl) rfl
theorem q2632 : (Jvm.Cond.methodLink "BenchBrokerLaw" (350 : Nat) ({ cls := "BenchBrokerModel", name := "letShare", desc := "()F" } : Jvm.MethodName)) ∈ lw_all := lw_g (lw_at lw_m11 147 rfl) rfl
theorem q2636 : (Jvm.Cond.methodLink "BenchBrokerLaw" (355 : Nat) ({ cls := "BenchBrokerModel", name := "isConsistent", desc := "()Z" } : Jvm.MethodName)) ∈ lw_all := lw_g (lw_at lw_m11 151 rfl) rfl
theorem q2640 : (Jvm.Cond.methodLink "BenchBrokerLaw" (358 : Nat) ({ cls := "BenchBrokerModel", name := "writeBench", desc := "(I)I" } : Jvm.MethodName)) ∈ lw_all := lw_g (lw_at lw_m11 155 rfl) rfl
theorem q2652 : (Jvm.Cond.methodLink "BenchBrokerLaw" (361 : Nat) ({ cls := "BenchBrokerModel", name := "writeRow", desc := "(I)I" } : Jvm.MethodName)) ∈ lw_all := lw_g (lw_at lw_m11 167 rfl) rfl
theorem q2656 : (Jvm.Cond.methodLink "BenchBrokerLaw" (364 : Nat) ({ cls := "BenchBrokerModel", name := "outputAt", desc := "(I)C" } : Jvm.MethodName)) ∈ lw_all := lw_g (lw_at lw_m11 171 rfl) rfl
theorem q2660 : (Jvm.Cond.methodLink "BenchBrokerLaw" (368 : Nat) ({ cls := "BenchBrokerModel", name := "appendInput", desc := "(C)I" } : Jvm.MethodName)) ∈ lw_all := lw_g (lw_at lw_m11 175 rfl) rfl
theorem q2664 : (Jvm.Cond.methodLink "BenchBrokerLaw" (372 : Nat) ({ cls := "BenchBrokerModel", name := "execute", desc := "()I" } : Jvm.MethodName)) ∈ lw_all := lw_g (lw_at lw_m11 179 rfl) rfl
theorem q2705 : (Jvm.Cond.methodLink "BenchBrokerLaw" (375 : Nat) ({ cls := "BenchBrokerModel", name := "syntaxErrorOffset", desc := "()I" } : Jvm.MethodName)) ∈ lw_all := lw_g (lw_at lw_m11 220 rfl) rfl
theorem q2709 : (Jvm.Cond.methodLink "BenchBrokerLaw" (378 : Nat) ({ cls := "BenchBrokerModel", name := "rejectionReason", desc := "()I" } : Jvm.MethodName)) ∈ lw_all := lw_g (lw_at lw_m11 224 rfl) rfl
theorem q2713 : (Jvm.Cond.methodLink "BenchBrokerLaw" (381 : Nat) ({ cls := "BenchBrokerModel", name := "rejectionDetail", desc := "()I" } : Jvm.MethodName)) ∈ lw_all := lw_g (lw_at lw_m11 228 rfl) rfl
theorem q2717 : (Jvm.Cond.methodLink "BenchBrokerLaw" (384 : Nat) ({ cls := "BenchBrokerModel", name := "causeReason", desc := "()I" } : Jvm.MethodName)) ∈ lw_all := lw_g (lw_at lw_m11 232 rfl) rfl
theorem q2721 : (Jvm.Cond.methodLink "BenchBrokerLaw" (387 : Nat) ({ cls := "BenchBrokerModel", name := "undo", desc := "()I" } : Jvm.MethodName)) ∈ lw_all := lw_g (lw_at lw_m11 236 rfl) rfl
theorem q2725 : (Jvm.Cond.methodLink "BenchBrokerLaw" (391 : Nat) ({ cls := "BenchBrokerModel", name := "saveSnapshot", desc := "()I" } : Jvm.MethodName)) ∈ lw_all := lw_g (lw_at lw_m12 0 rfl) rfl
theorem q2729 : (Jvm.Cond.methodLink "BenchBrokerLaw" (394 : Nat) ({ cls := "BenchBrokerModel", name := "restoreSnapshot", desc := "()I" } : Jvm.MethodName)) ∈ lw_all := lw_g (lw_at lw_m12 4 rfl) rfl
/-! the law's own entry -/
set_option maxRecDepth 100000
abbrev cL_law : ByteArray := code
def dkwL_law_133 : List UInt8 := [4, 172]
abbrev dktL_law_133 : List UInt8 := dkwL_law_133 ++ []
def dkwL_law_132 : List UInt8 := [154, 0, 15, 45, 3, 47, 21, 7, 133, 148, 153, 0, 5, 3, 172, 167, 0, 3, 132, 5, 4, 167, 243, 30]
abbrev dktL_law_132 : List UInt8 := dkwL_law_132 ++ dktL_law_133
def dkwL_law_131 : List UInt8 := [184, 1, 136, 54, 6, 44, 182, 1, 138, 54, 7, 44, 182, 0, 185, 21, 6, 159, 0, 5, 3, 172, 21, 6]
abbrev dktL_law_131 : List UInt8 := dkwL_law_131 ++ dktL_law_132
def dkwL_law_130 : List UInt8 := [153, 0, 5, 3, 172, 167, 0, 60, 43, 182, 1, 132, 44, 182, 1, 135, 159, 0, 49, 3, 172, 43, 45]
abbrev dktL_law_130 : List UInt8 := dkwL_law_130 ++ dktL_law_131
def dkwL_law_129 : List UInt8 := [182, 0, 185, 21, 6, 159, 0, 5, 3, 172, 21, 6, 154, 0, 15, 45, 3, 47, 21, 7, 133, 148]
abbrev dktL_law_129 : List UInt8 := dkwL_law_129 ++ dktL_law_130
def dkwL_law_128 : List UInt8 := [153, 0, 5, 3, 172, 167, 0, 104, 43, 45, 184, 1, 129, 54, 6, 44, 182, 1, 131, 54, 7, 44]
abbrev dktL_law_128 : List UInt8 := dkwL_law_128 ++ dktL_law_129
def dkwL_law_127 : List UInt8 := [182, 0, 185, 21, 6, 159, 0, 5, 3, 172, 21, 6, 154, 0, 15, 45, 3, 47, 21, 7, 133, 148]
abbrev dktL_law_127 : List UInt8 := dkwL_law_127 ++ dktL_law_128
def dkwL_law_126 : List UInt8 := [153, 0, 5, 3, 172, 167, 0, 148, 43, 45, 184, 1, 126, 54, 6, 44, 182, 1, 128, 54, 7, 44]
abbrev dktL_law_126 : List UInt8 := dkwL_law_126 ++ dktL_law_127
def dkwL_law_125 : List UInt8 := [182, 0, 185, 21, 6, 159, 0, 5, 3, 172, 21, 6, 154, 0, 15, 45, 3, 47, 21, 7, 133, 148]
abbrev dktL_law_125 : List UInt8 := dkwL_law_125 ++ dktL_law_126
def dkwL_law_124 : List UInt8 := [153, 0, 5, 3, 172, 167, 0, 192, 43, 45, 184, 1, 123, 54, 6, 44, 182, 1, 125, 54, 7, 44]
abbrev dktL_law_124 : List UInt8 := dkwL_law_124 ++ dktL_law_125
def dkwL_law_123 : List UInt8 := [182, 0, 185, 21, 6, 159, 0, 5, 3, 172, 21, 6, 154, 0, 15, 45, 3, 47, 21, 7, 133, 148]
abbrev dktL_law_123 : List UInt8 := dkwL_law_123 ++ dktL_law_124
def dkwL_law_122 : List UInt8 := [153, 0, 5, 3, 172, 167, 0, 236, 43, 45, 184, 1, 120, 54, 6, 44, 182, 1, 122, 54, 7, 44]
abbrev dktL_law_122 : List UInt8 := dkwL_law_122 ++ dktL_law_123
def dkwL_law_121 : List UInt8 := [182, 0, 185, 21, 6, 159, 0, 5, 3, 172, 21, 6, 154, 0, 15, 45, 3, 47, 21, 7, 133, 148]
abbrev dktL_law_121 : List UInt8 := dkwL_law_121 ++ dktL_law_122
def dkwL_law_120 : List UInt8 := [153, 0, 5, 3, 172, 167, 1, 24, 43, 45, 184, 1, 117, 54, 6, 44, 182, 1, 119, 54, 7, 44]
abbrev dktL_law_120 : List UInt8 := dkwL_law_120 ++ dktL_law_121
def dkwL_law_119 : List UInt8 := [182, 0, 185, 21, 6, 159, 0, 5, 3, 172, 21, 6, 154, 0, 15, 45, 3, 47, 21, 7, 133, 148]
abbrev dktL_law_119 : List UInt8 := dkwL_law_119 ++ dktL_law_120
def dkwL_law_118 : List UInt8 := [148, 153, 0, 5, 3, 172, 167, 1, 68, 43, 45, 184, 1, 113, 54, 6, 44, 182, 1, 116, 54, 7, 44]
abbrev dktL_law_118 : List UInt8 := dkwL_law_118 ++ dktL_law_119
def dkwL_law_117 : List UInt8 := [54, 7, 44, 182, 0, 185, 21, 6, 159, 0, 5, 3, 172, 21, 6, 154, 0, 15, 45, 3, 47, 21, 7, 133]
abbrev dktL_law_117 : List UInt8 := dkwL_law_117 ++ dktL_law_118
def dkwL_law_116 : List UInt8 := [21, 5, 4, 96, 46, 146, 45, 184, 1, 109, 54, 6, 44, 42, 21, 5, 4, 96, 46, 146, 182, 1, 112]
abbrev dktL_law_116 : List UInt8 := dkwL_law_116 ++ dktL_law_117
def dkwL_law_115 : List UInt8 := [172, 21, 6, 154, 0, 15, 45, 3, 47, 21, 7, 133, 148, 153, 0, 5, 3, 172, 167, 1, 126, 43, 42]
abbrev dktL_law_115 : List UInt8 := dkwL_law_115 ++ dktL_law_116
def dkwL_law_114 : List UInt8 := [54, 6, 44, 42, 21, 5, 4, 96, 46, 182, 1, 108, 54, 7, 44, 182, 0, 185, 21, 6, 159, 0, 5, 3]
abbrev dktL_law_114 : List UInt8 := dkwL_law_114 ++ dktL_law_115
def dkwL_law_113 : List UInt8 := [21, 7, 133, 148, 153, 0, 5, 3, 172, 167, 1, 182, 43, 42, 21, 5, 4, 96, 46, 45, 184, 1, 106]
abbrev dktL_law_113 : List UInt8 := dkwL_law_113 ++ dktL_law_114
def dkwL_law_112 : List UInt8 := [182, 1, 105, 54, 7, 44, 182, 0, 185, 21, 6, 159, 0, 5, 3, 172, 21, 6, 154, 0, 15, 45, 3, 47]
abbrev dktL_law_112 : List UInt8 := dkwL_law_112 ++ dktL_law_113
def dkwL_law_111 : List UInt8 := [167, 1, 238, 43, 42, 21, 5, 4, 96, 46, 45, 184, 1, 103, 54, 6, 44, 42, 21, 5, 4, 96, 46]
abbrev dktL_law_111 : List UInt8 := dkwL_law_111 ++ dktL_law_112
def dkwL_law_110 : List UInt8 := [159, 0, 5, 3, 172, 21, 6, 154, 0, 15, 45, 3, 47, 21, 7, 133, 148, 153, 0, 5, 3, 172]
abbrev dktL_law_110 : List UInt8 := dkwL_law_110 ++ dktL_law_111
def dkwL_law_109 : List UInt8 := [184, 1, 100, 54, 6, 44, 42, 21, 5, 4, 96, 46, 182, 1, 102, 54, 7, 44, 182, 0, 185, 21, 6]
abbrev dktL_law_109 : List UInt8 := dkwL_law_109 ++ dktL_law_110
def dkwL_law_108 : List UInt8 := [167, 2, 51, 43, 182, 1, 95, 44, 182, 1, 99, 159, 2, 40, 3, 172, 43, 42, 21, 5, 4, 96, 46, 45]
abbrev dktL_law_108 : List UInt8 := dkwL_law_108 ++ dktL_law_109
def dkwL_law_107 : List UInt8 := [25, 4, 3, 49, 25, 4, 3, 49, 151, 153, 0, 11, 23, 7, 23, 7, 149, 154, 0, 5, 3, 172]
abbrev dktL_law_107 : List UInt8 := dkwL_law_107 ++ dktL_law_108
def dkwL_law_106 : List UInt8 := [21, 6, 159, 0, 5, 3, 172, 21, 6, 154, 0, 36, 25, 4, 3, 49, 23, 7, 141, 151, 153, 0, 25]
abbrev dktL_law_106 : List UInt8 := dkwL_law_106 ++ dktL_law_107
def dkwL_law_105 : List UInt8 := [3, 172, 167, 2, 117, 43, 25, 4, 184, 1, 92, 54, 6, 44, 182, 1, 94, 56, 7, 44, 182, 0, 185]
abbrev dktL_law_105 : List UInt8 := dkwL_law_105 ++ dktL_law_106
def dkwL_law_104 : List UInt8 := [151, 153, 0, 25, 25, 4, 3, 49, 25, 4, 3, 49, 151, 153, 0, 11, 24, 7, 24, 7, 151, 154, 0, 5]
abbrev dktL_law_104 : List UInt8 := dkwL_law_104 ++ dktL_law_105
def dkwL_law_103 : List UInt8 := [57, 7, 44, 182, 0, 185, 21, 6, 159, 0, 5, 3, 172, 21, 6, 154, 0, 35, 25, 4, 3, 49, 24, 7]
abbrev dktL_law_103 : List UInt8 := dkwL_law_103 ++ dktL_law_104
def dkwL_law_102 : List UInt8 := [21, 7, 133, 148, 153, 0, 5, 3, 172, 167, 2, 182, 43, 25, 4, 184, 1, 88, 54, 6, 44, 182, 1, 91]
abbrev dktL_law_102 : List UInt8 := dkwL_law_102 ++ dktL_law_103
def dkwL_law_101 : List UInt8 := [182, 1, 87, 54, 7, 44, 182, 0, 185, 21, 6, 159, 0, 5, 3, 172, 21, 6, 154, 0, 15, 45, 3, 47]
abbrev dktL_law_101 : List UInt8 := dkwL_law_101 ++ dktL_law_102
def dkwL_law_100 : List UInt8 := [167, 2, 238, 43, 42, 21, 5, 4, 96, 46, 45, 184, 1, 85, 54, 6, 44, 42, 21, 5, 4, 96, 46]
abbrev dktL_law_100 : List UInt8 := dkwL_law_100 ++ dktL_law_101
def dkwL_law_99 : List UInt8 := [21, 6, 159, 0, 5, 3, 172, 21, 6, 154, 0, 15, 45, 3, 47, 21, 7, 133, 148, 153, 0, 5, 3, 172]
abbrev dktL_law_99 : List UInt8 := dkwL_law_99 ++ dktL_law_100
def dkwL_law_98 : List UInt8 := [46, 45, 184, 1, 82, 54, 6, 44, 42, 21, 5, 4, 96, 46, 182, 1, 84, 54, 7, 44, 182, 0, 185]
abbrev dktL_law_98 : List UInt8 := dkwL_law_98 ++ dktL_law_99
def dkwL_law_97 : List UInt8 := [159, 3, 53, 3, 172, 43, 182, 1, 78, 44, 182, 1, 81, 159, 3, 40, 3, 172, 43, 42, 21, 5, 4, 96]
abbrev dktL_law_97 : List UInt8 := dkwL_law_97 ++ dktL_law_98
def dkwL_law_96 : List UInt8 := [172, 43, 182, 1, 70, 44, 182, 1, 73, 159, 3, 66, 3, 172, 43, 182, 1, 74, 44, 182, 1, 77]
abbrev dktL_law_96 : List UInt8 := dkwL_law_96 ++ dktL_law_97
def dkwL_law_95 : List UInt8 := [182, 1, 62, 44, 182, 1, 65, 159, 3, 92, 3, 172, 43, 182, 1, 66, 44, 182, 1, 69, 159, 3, 79, 3]
abbrev dktL_law_95 : List UInt8 := dkwL_law_95 ++ dktL_law_96
def dkwL_law_94 : List UInt8 := [182, 1, 57, 159, 3, 118, 3, 172, 43, 182, 1, 58, 44, 182, 1, 61, 159, 3, 105, 3, 172, 43]
abbrev dktL_law_94 : List UInt8 := dkwL_law_94 ++ dktL_law_95
def dkwL_law_93 : List UInt8 := [154, 0, 15, 45, 3, 47, 21, 7, 133, 148, 153, 0, 5, 3, 172, 167, 3, 129, 43, 182, 1, 54, 44]
abbrev dktL_law_93 : List UInt8 := dkwL_law_93 ++ dktL_law_94
def dkwL_law_92 : List UInt8 := [21, 5, 4, 96, 46, 182, 1, 53, 54, 7, 44, 182, 0, 185, 21, 6, 159, 0, 5, 3, 172, 21, 6]
abbrev dktL_law_92 : List UInt8 := dkwL_law_92 ++ dktL_law_93
def dkwL_law_91 : List UInt8 := [153, 0, 5, 3, 172, 167, 3, 185, 43, 42, 21, 5, 4, 96, 46, 45, 184, 1, 51, 54, 6, 44, 42]
abbrev dktL_law_91 : List UInt8 := dkwL_law_91 ++ dktL_law_92
def dkwL_law_90 : List UInt8 := [182, 0, 185, 21, 6, 159, 0, 5, 3, 172, 21, 6, 154, 0, 15, 45, 3, 47, 21, 7, 133, 148]
abbrev dktL_law_90 : List UInt8 := dkwL_law_90 ++ dktL_law_91
def dkwL_law_89 : List UInt8 := [21, 5, 4, 96, 46, 45, 184, 1, 48, 54, 6, 44, 42, 21, 5, 4, 96, 46, 182, 1, 50, 54, 7, 44]
abbrev dktL_law_89 : List UInt8 := dkwL_law_89 ++ dktL_law_90
def dkwL_law_88 : List UInt8 := [153, 0, 5, 3, 172, 167, 3, 254, 43, 182, 1, 44, 44, 182, 1, 47, 159, 3, 243, 3, 172, 43, 42]
abbrev dktL_law_88 : List UInt8 := dkwL_law_88 ++ dktL_law_89
def dkwL_law_87 : List UInt8 := [182, 0, 185, 21, 6, 159, 0, 5, 3, 172, 21, 6, 154, 0, 15, 45, 3, 47, 21, 7, 133, 148]
abbrev dktL_law_87 : List UInt8 := dkwL_law_87 ++ dktL_law_88
def dkwL_law_86 : List UInt8 := [21, 5, 4, 96, 46, 45, 184, 1, 41, 54, 6, 44, 42, 21, 5, 4, 96, 46, 182, 1, 43, 54, 7, 44]
abbrev dktL_law_86 : List UInt8 := dkwL_law_86 ++ dktL_law_87
def dkwL_law_85 : List UInt8 := [172, 21, 6, 154, 0, 15, 45, 3, 47, 21, 7, 133, 148, 153, 0, 5, 3, 172, 167, 4, 54, 43, 42]
abbrev dktL_law_85 : List UInt8 := dkwL_law_85 ++ dktL_law_86
def dkwL_law_84 : List UInt8 := [54, 6, 44, 42, 21, 5, 4, 96, 46, 182, 1, 40, 54, 7, 44, 182, 0, 185, 21, 6, 159, 0, 5, 3]
abbrev dktL_law_84 : List UInt8 := dkwL_law_84 ++ dktL_law_85
def dkwL_law_83 : List UInt8 := [21, 7, 133, 148, 153, 0, 5, 3, 172, 167, 4, 110, 43, 42, 21, 5, 4, 96, 46, 45, 184, 1, 38]
abbrev dktL_law_83 : List UInt8 := dkwL_law_83 ++ dktL_law_84
def dkwL_law_82 : List UInt8 := [182, 1, 37, 54, 7, 44, 182, 0, 185, 21, 6, 159, 0, 5, 3, 172, 21, 6, 154, 0, 15, 45, 3, 47]
abbrev dktL_law_82 : List UInt8 := dkwL_law_82 ++ dktL_law_83
def dkwL_law_81 : List UInt8 := [167, 4, 166, 43, 42, 21, 5, 4, 96, 46, 45, 184, 1, 35, 54, 6, 44, 42, 21, 5, 4, 96, 46]
abbrev dktL_law_81 : List UInt8 := dkwL_law_81 ++ dktL_law_82
def dkwL_law_80 : List UInt8 := [21, 6, 159, 0, 5, 3, 172, 21, 6, 154, 0, 15, 45, 3, 47, 21, 7, 133, 148, 153, 0, 5, 3, 172]
abbrev dktL_law_80 : List UInt8 := dkwL_law_80 ++ dktL_law_81
def dkwL_law_79 : List UInt8 := [46, 45, 184, 1, 32, 54, 6, 44, 42, 21, 5, 4, 96, 46, 182, 1, 34, 54, 7, 44, 182, 0, 185]
abbrev dktL_law_79 : List UInt8 := dkwL_law_79 ++ dktL_law_80
def dkwL_law_78 : List UInt8 := [154, 0, 15, 45, 3, 47, 21, 7, 133, 148, 153, 0, 5, 3, 172, 167, 4, 222, 43, 42, 21, 5, 4, 96]
abbrev dktL_law_78 : List UInt8 := dkwL_law_78 ++ dktL_law_79
def dkwL_law_77 : List UInt8 := [21, 5, 4, 96, 46, 182, 1, 31, 54, 7, 44, 182, 0, 185, 21, 6, 159, 0, 5, 3, 172, 21, 6]
abbrev dktL_law_77 : List UInt8 := dkwL_law_77 ++ dktL_law_78
def dkwL_law_76 : List UInt8 := [153, 0, 5, 3, 172, 167, 5, 22, 43, 42, 21, 5, 4, 96, 46, 45, 184, 1, 29, 54, 6, 44, 42]
abbrev dktL_law_76 : List UInt8 := dkwL_law_76 ++ dktL_law_77
def dkwL_law_75 : List UInt8 := [159, 0, 5, 3, 172, 21, 6, 154, 0, 22, 45, 3, 47, 21, 7, 153, 0, 7, 10, 167, 0, 4, 9, 148]
abbrev dktL_law_75 : List UInt8 := dkwL_law_75 ++ dktL_law_76
def dkwL_law_74 : List UInt8 := [184, 1, 26, 54, 6, 44, 42, 21, 5, 4, 96, 46, 182, 1, 28, 54, 7, 44, 182, 0, 185, 21, 6]
abbrev dktL_law_74 : List UInt8 := dkwL_law_74 ++ dktL_law_75
def dkwL_law_73 : List UInt8 := [3, 47, 21, 7, 133, 148, 153, 0, 5, 3, 172, 167, 5, 85, 43, 42, 21, 5, 4, 96, 46, 45]
abbrev dktL_law_73 : List UInt8 := dkwL_law_73 ++ dktL_law_74
def dkwL_law_72 : List UInt8 := [96, 46, 182, 1, 25, 54, 7, 44, 182, 0, 185, 21, 6, 159, 0, 5, 3, 172, 21, 6, 154, 0, 15, 45]
abbrev dktL_law_72 : List UInt8 := dkwL_law_72 ++ dktL_law_73
def dkwL_law_71 : List UInt8 := [46, 42, 21, 5, 5, 96, 46, 45, 184, 1, 23, 54, 6, 44, 42, 21, 5, 4, 96, 46, 42, 21, 5, 5]
abbrev dktL_law_71 : List UInt8 := dkwL_law_71 ++ dktL_law_72
def dkwL_law_70 : List UInt8 := [154, 0, 15, 45, 3, 47, 21, 7, 133, 148, 153, 0, 5, 3, 172, 167, 5, 153, 43, 42, 21, 5, 4, 96]
abbrev dktL_law_70 : List UInt8 := dkwL_law_70 ++ dktL_law_71
def dkwL_law_69 : List UInt8 := [21, 5, 4, 96, 46, 182, 1, 22, 54, 7, 44, 182, 0, 185, 21, 6, 159, 0, 5, 3, 172, 21, 6]
abbrev dktL_law_69 : List UInt8 := dkwL_law_69 ++ dktL_law_70
def dkwL_law_68 : List UInt8 := [153, 0, 5, 3, 172, 167, 5, 209, 43, 42, 21, 5, 4, 96, 46, 45, 184, 1, 20, 54, 6, 44, 42]
abbrev dktL_law_68 : List UInt8 := dkwL_law_68 ++ dktL_law_69
def dkwL_law_67 : List UInt8 := [182, 0, 185, 21, 6, 159, 0, 5, 3, 172, 21, 6, 154, 0, 15, 45, 3, 47, 21, 7, 133, 148]
abbrev dktL_law_67 : List UInt8 := dkwL_law_67 ++ dktL_law_68
def dkwL_law_66 : List UInt8 := [42, 21, 5, 4, 96, 46, 42, 21, 5, 5, 96, 46, 42, 21, 5, 6, 96, 46, 182, 1, 19, 54, 7, 44]
abbrev dktL_law_66 : List UInt8 := dkwL_law_66 ++ dktL_law_67
def dkwL_law_65 : List UInt8 := [21, 5, 4, 96, 46, 42, 21, 5, 5, 96, 46, 42, 21, 5, 6, 96, 46, 45, 184, 1, 17, 54, 6, 44]
abbrev dktL_law_65 : List UInt8 := dkwL_law_65 ++ dktL_law_66
def dkwL_law_64 : List UInt8 := [172, 21, 6, 154, 0, 15, 45, 3, 47, 21, 7, 133, 148, 153, 0, 5, 3, 172, 167, 6, 33, 43, 42]
abbrev dktL_law_64 : List UInt8 := dkwL_law_64 ++ dktL_law_65
def dkwL_law_63 : List UInt8 := [54, 6, 44, 42, 21, 5, 4, 96, 46, 182, 1, 16, 54, 7, 44, 182, 0, 185, 21, 6, 159, 0, 5, 3]
abbrev dktL_law_63 : List UInt8 := dkwL_law_63 ++ dktL_law_64
def dkwL_law_62 : List UInt8 := [167, 0, 4, 9, 148, 153, 0, 5, 3, 172, 167, 6, 89, 43, 42, 21, 5, 4, 96, 46, 45, 184, 1, 14]
abbrev dktL_law_62 : List UInt8 := dkwL_law_62 ++ dktL_law_63
def dkwL_law_61 : List UInt8 := [182, 0, 185, 21, 6, 159, 0, 5, 3, 172, 21, 6, 154, 0, 22, 45, 3, 47, 21, 7, 153, 0, 7, 10]
abbrev dktL_law_61 : List UInt8 := dkwL_law_61 ++ dktL_law_62
def dkwL_law_60 : List UInt8 := [184, 1, 11, 54, 6, 44, 42, 21, 5, 4, 96, 46, 42, 21, 5, 5, 96, 46, 182, 1, 13, 54, 7, 44]
abbrev dktL_law_60 : List UInt8 := dkwL_law_60 ++ dktL_law_61
def dkwL_law_59 : List UInt8 := [153, 0, 5, 3, 172, 167, 6, 164, 43, 42, 21, 5, 4, 96, 46, 42, 21, 5, 5, 96, 46, 45]
abbrev dktL_law_59 : List UInt8 := dkwL_law_59 ++ dktL_law_60
def dkwL_law_58 : List UInt8 := [182, 0, 185, 21, 6, 159, 0, 5, 3, 172, 21, 6, 154, 0, 15, 45, 3, 47, 21, 7, 133, 148]
abbrev dktL_law_58 : List UInt8 := dkwL_law_58 ++ dktL_law_59
def dkwL_law_57 : List UInt8 := [21, 5, 4, 96, 46, 45, 184, 1, 8, 54, 6, 44, 42, 21, 5, 4, 96, 46, 182, 1, 10, 54, 7, 44]
abbrev dktL_law_57 : List UInt8 := dkwL_law_57 ++ dktL_law_58
def dkwL_law_56 : List UInt8 := [172, 21, 6, 154, 0, 15, 45, 3, 47, 21, 7, 133, 148, 153, 0, 5, 3, 172, 167, 6, 220, 43, 42]
abbrev dktL_law_56 : List UInt8 := dkwL_law_56 ++ dktL_law_57
def dkwL_law_55 : List UInt8 := [54, 6, 44, 42, 21, 5, 4, 96, 46, 182, 1, 7, 54, 7, 44, 182, 0, 185, 21, 6, 159, 0, 5, 3]
abbrev dktL_law_55 : List UInt8 := dkwL_law_55 ++ dktL_law_56
def dkwL_law_54 : List UInt8 := [47, 21, 7, 133, 148, 153, 0, 5, 3, 172, 167, 7, 20, 43, 42, 21, 5, 4, 96, 46, 45, 184, 1, 5]
abbrev dktL_law_54 : List UInt8 := dkwL_law_54 ++ dktL_law_55
def dkwL_law_53 : List UInt8 := [46, 182, 1, 4, 54, 7, 44, 182, 0, 185, 21, 6, 159, 0, 5, 3, 172, 21, 6, 154, 0, 15, 45, 3]
abbrev dktL_law_53 : List UInt8 := dkwL_law_53 ++ dktL_law_54
def dkwL_law_52 : List UInt8 := [159, 7, 78, 3, 172, 43, 42, 21, 5, 4, 96, 46, 45, 184, 1, 2, 54, 6, 44, 42, 21, 5, 4, 96]
abbrev dktL_law_52 : List UInt8 := dkwL_law_52 ++ dktL_law_53
def dkwL_law_51 : List UInt8 := [3, 47, 21, 7, 133, 148, 153, 0, 5, 3, 172, 167, 7, 89, 43, 182, 0, 254, 44, 182, 1, 1]
abbrev dktL_law_51 : List UInt8 := dkwL_law_51 ++ dktL_law_52
def dkwL_law_50 : List UInt8 := [96, 46, 182, 0, 253, 54, 7, 44, 182, 0, 185, 21, 6, 159, 0, 5, 3, 172, 21, 6, 154, 0, 15, 45]
abbrev dktL_law_50 : List UInt8 := dkwL_law_50 ++ dktL_law_51
def dkwL_law_49 : List UInt8 := [46, 42, 21, 5, 5, 96, 46, 45, 184, 0, 251, 54, 6, 44, 42, 21, 5, 4, 96, 46, 42, 21, 5, 5]
abbrev dktL_law_49 : List UInt8 := dkwL_law_49 ++ dktL_law_50
def dkwL_law_48 : List UInt8 := [154, 0, 15, 45, 3, 47, 21, 7, 133, 148, 153, 0, 5, 3, 172, 167, 7, 157, 43, 42, 21, 5, 4, 96]
abbrev dktL_law_48 : List UInt8 := dkwL_law_48 ++ dktL_law_49
def dkwL_law_47 : List UInt8 := [21, 5, 4, 96, 46, 182, 0, 250, 54, 7, 44, 182, 0, 185, 21, 6, 159, 0, 5, 3, 172, 21, 6]
abbrev dktL_law_47 : List UInt8 := dkwL_law_47 ++ dktL_law_48
def dkwL_law_46 : List UInt8 := [182, 0, 247, 159, 7, 215, 3, 172, 43, 42, 21, 5, 4, 96, 46, 45, 184, 0, 248, 54, 6, 44, 42]
abbrev dktL_law_46 : List UInt8 := dkwL_law_46 ++ dktL_law_47
def dkwL_law_45 : List UInt8 := [21, 7, 153, 0, 7, 10, 167, 0, 4, 9, 148, 153, 0, 5, 3, 172, 167, 7, 226, 43, 182, 0, 244, 44]
abbrev dktL_law_45 : List UInt8 := dkwL_law_45 ++ dktL_law_46
def dkwL_law_44 : List UInt8 := [182, 0, 243, 54, 7, 44, 182, 0, 185, 21, 6, 159, 0, 5, 3, 172, 21, 6, 154, 0, 22, 45, 3, 47]
abbrev dktL_law_44 : List UInt8 := dkwL_law_44 ++ dktL_law_45
def dkwL_law_43 : List UInt8 := [167, 8, 33, 43, 42, 21, 5, 4, 96, 46, 45, 184, 0, 241, 54, 6, 44, 42, 21, 5, 4, 96, 46]
abbrev dktL_law_43 : List UInt8 := dkwL_law_43 ++ dktL_law_44
def dkwL_law_42 : List UInt8 := [159, 0, 5, 3, 172, 21, 6, 154, 0, 15, 45, 3, 47, 21, 7, 133, 148, 153, 0, 5, 3, 172]
abbrev dktL_law_42 : List UInt8 := dkwL_law_42 ++ dktL_law_43
def dkwL_law_41 : List UInt8 := [21, 5, 4, 96, 46, 42, 21, 5, 5, 96, 46, 182, 0, 240, 54, 7, 44, 182, 0, 185, 21, 6]
abbrev dktL_law_41 : List UInt8 := dkwL_law_41 ++ dktL_law_42
def dkwL_law_40 : List UInt8 := [167, 8, 101, 43, 42, 21, 5, 4, 96, 46, 42, 21, 5, 5, 96, 46, 45, 184, 0, 238, 54, 6, 44, 42]
abbrev dktL_law_40 : List UInt8 := dkwL_law_40 ++ dktL_law_41
def dkwL_law_39 : List UInt8 := [159, 0, 5, 3, 172, 21, 6, 154, 0, 15, 45, 3, 47, 21, 7, 133, 148, 153, 0, 5, 3, 172]
abbrev dktL_law_39 : List UInt8 := dkwL_law_39 ++ dktL_law_40
def dkwL_law_38 : List UInt8 := [21, 5, 4, 96, 46, 42, 21, 5, 5, 96, 46, 182, 0, 237, 54, 7, 44, 182, 0, 185, 21, 6]
abbrev dktL_law_38 : List UInt8 := dkwL_law_38 ++ dktL_law_39
def dkwL_law_37 : List UInt8 := [3, 172, 43, 42, 21, 5, 4, 96, 46, 42, 21, 5, 5, 96, 46, 45, 184, 0, 235, 54, 6, 44, 42]
abbrev dktL_law_37 : List UInt8 := dkwL_law_37 ++ dktL_law_38
def dkwL_law_36 : List UInt8 := [167, 0, 4, 9, 148, 153, 0, 5, 3, 172, 167, 8, 182, 43, 182, 0, 231, 44, 182, 0, 234, 159, 8, 171]
abbrev dktL_law_36 : List UInt8 := dkwL_law_36 ++ dktL_law_37
def dkwL_law_35 : List UInt8 := [182, 0, 185, 21, 6, 159, 0, 5, 3, 172, 21, 6, 154, 0, 22, 45, 3, 47, 21, 7, 153, 0, 7, 10]
abbrev dktL_law_35 : List UInt8 := dkwL_law_35 ++ dktL_law_36
def dkwL_law_34 : List UInt8 := [21, 5, 4, 96, 46, 45, 184, 0, 228, 54, 6, 44, 42, 21, 5, 4, 96, 46, 182, 0, 230, 54, 7, 44]
abbrev dktL_law_34 : List UInt8 := dkwL_law_34 ++ dktL_law_35
def dkwL_law_33 : List UInt8 := [172, 21, 6, 154, 0, 15, 45, 3, 47, 21, 7, 133, 148, 153, 0, 5, 3, 172, 167, 8, 245, 43, 42]
abbrev dktL_law_33 : List UInt8 := dkwL_law_33 ++ dktL_law_34
def dkwL_law_32 : List UInt8 := [54, 6, 44, 42, 21, 5, 4, 96, 46, 182, 0, 227, 54, 7, 44, 182, 0, 185, 21, 6, 159, 0, 5, 3]
abbrev dktL_law_32 : List UInt8 := dkwL_law_32 ++ dktL_law_33
def dkwL_law_31 : List UInt8 := [182, 0, 221, 44, 182, 0, 224, 159, 9, 47, 3, 172, 43, 42, 21, 5, 4, 96, 46, 45, 184, 0, 225]
abbrev dktL_law_31 : List UInt8 := dkwL_law_31 ++ dktL_law_32
def dkwL_law_30 : List UInt8 := [172, 21, 6, 154, 0, 15, 45, 3, 47, 21, 7, 133, 148, 153, 0, 5, 3, 172, 167, 9, 58, 43]
abbrev dktL_law_30 : List UInt8 := dkwL_law_30 ++ dktL_law_31
def dkwL_law_29 : List UInt8 := [54, 6, 44, 42, 21, 5, 4, 96, 46, 182, 0, 220, 54, 7, 44, 182, 0, 185, 21, 6, 159, 0, 5, 3]
abbrev dktL_law_29 : List UInt8 := dkwL_law_29 ++ dktL_law_30
def dkwL_law_28 : List UInt8 := [21, 7, 133, 148, 153, 0, 5, 3, 172, 167, 9, 114, 43, 42, 21, 5, 4, 96, 46, 45, 184, 0, 218]
abbrev dktL_law_28 : List UInt8 := dkwL_law_28 ++ dktL_law_29
def dkwL_law_27 : List UInt8 := [182, 0, 217, 54, 7, 44, 182, 0, 185, 21, 6, 159, 0, 5, 3, 172, 21, 6, 154, 0, 15, 45, 3, 47]
abbrev dktL_law_27 : List UInt8 := dkwL_law_27 ++ dktL_law_28
def dkwL_law_26 : List UInt8 := [167, 9, 170, 43, 42, 21, 5, 4, 96, 46, 45, 184, 0, 215, 54, 6, 44, 42, 21, 5, 4, 96, 46]
abbrev dktL_law_26 : List UInt8 := dkwL_law_26 ++ dktL_law_27
def dkwL_law_25 : List UInt8 := [21, 6, 159, 0, 5, 3, 172, 21, 6, 154, 0, 15, 45, 3, 47, 21, 7, 133, 148, 153, 0, 5, 3, 172]
abbrev dktL_law_25 : List UInt8 := dkwL_law_25 ++ dktL_law_26
def dkwL_law_24 : List UInt8 := [46, 45, 184, 0, 212, 54, 6, 44, 42, 21, 5, 4, 96, 46, 182, 0, 214, 54, 7, 44, 182, 0, 185]
abbrev dktL_law_24 : List UInt8 := dkwL_law_24 ++ dktL_law_25
def dkwL_law_23 : List UInt8 := [154, 0, 15, 45, 3, 47, 21, 7, 133, 148, 153, 0, 5, 3, 172, 167, 9, 226, 43, 42, 21, 5, 4, 96]
abbrev dktL_law_23 : List UInt8 := dkwL_law_23 ++ dktL_law_24
def dkwL_law_22 : List UInt8 := [21, 5, 4, 96, 46, 182, 0, 211, 54, 7, 44, 182, 0, 185, 21, 6, 159, 0, 5, 3, 172, 21, 6]
abbrev dktL_law_22 : List UInt8 := dkwL_law_22 ++ dktL_law_23
def dkwL_law_21 : List UInt8 := [182, 0, 208, 159, 10, 28, 3, 172, 43, 42, 21, 5, 4, 96, 46, 45, 184, 0, 209, 54, 6, 44, 42]
abbrev dktL_law_21 : List UInt8 := dkwL_law_21 ++ dktL_law_22
def dkwL_law_20 : List UInt8 := [154, 0, 15, 45, 3, 47, 21, 7, 133, 148, 153, 0, 5, 3, 172, 167, 10, 39, 43, 182, 0, 205, 44]
abbrev dktL_law_20 : List UInt8 := dkwL_law_20 ++ dktL_law_21
def dkwL_law_19 : List UInt8 := [21, 5, 4, 96, 46, 182, 0, 204, 54, 7, 44, 182, 0, 185, 21, 6, 159, 0, 5, 3, 172, 21, 6]
abbrev dktL_law_19 : List UInt8 := dkwL_law_19 ++ dktL_law_20
def dkwL_law_18 : List UInt8 := [153, 0, 5, 3, 172, 167, 10, 95, 43, 42, 21, 5, 4, 96, 46, 45, 184, 0, 202, 54, 6, 44, 42]
abbrev dktL_law_18 : List UInt8 := dkwL_law_18 ++ dktL_law_19
def dkwL_law_17 : List UInt8 := [159, 0, 5, 3, 172, 21, 6, 154, 0, 22, 45, 3, 47, 21, 7, 153, 0, 7, 10, 167, 0, 4, 9, 148]
abbrev dktL_law_17 : List UInt8 := dkwL_law_17 ++ dktL_law_18
def dkwL_law_16 : List UInt8 := [184, 0, 198, 54, 6, 44, 42, 21, 5, 4, 96, 46, 182, 0, 201, 54, 7, 44, 182, 0, 185, 21, 6]
abbrev dktL_law_16 : List UInt8 := dkwL_law_16 ++ dktL_law_17
def dkwL_law_15 : List UInt8 := [3, 47, 21, 7, 133, 148, 153, 0, 5, 3, 172, 167, 10, 158, 43, 42, 21, 5, 4, 96, 46, 45]
abbrev dktL_law_15 : List UInt8 := dkwL_law_15 ++ dktL_law_16
def dkwL_law_14 : List UInt8 := [96, 46, 182, 0, 197, 54, 7, 44, 182, 0, 185, 21, 6, 159, 0, 5, 3, 172, 21, 6, 154, 0, 15, 45]
abbrev dktL_law_14 : List UInt8 := dkwL_law_14 ++ dktL_law_15
def dkwL_law_13 : List UInt8 := [46, 42, 21, 5, 5, 96, 46, 45, 184, 0, 195, 54, 6, 44, 42, 21, 5, 4, 96, 46, 42, 21, 5, 5]
abbrev dktL_law_13 : List UInt8 := dkwL_law_13 ++ dktL_law_14
def dkwL_law_12 : List UInt8 := [154, 0, 15, 45, 3, 47, 21, 7, 133, 148, 153, 0, 5, 3, 172, 167, 10, 226, 43, 42, 21, 5, 4, 96]
abbrev dktL_law_12 : List UInt8 := dkwL_law_12 ++ dktL_law_13
def dkwL_law_11 : List UInt8 := [21, 5, 6, 96, 46, 182, 0, 194, 54, 7, 44, 182, 0, 185, 21, 6, 159, 0, 5, 3, 172, 21, 6]
abbrev dktL_law_11 : List UInt8 := dkwL_law_11 ++ dktL_law_12
def dkwL_law_10 : List UInt8 := [6, 96, 46, 45, 184, 0, 192, 54, 6, 44, 42, 21, 5, 4, 96, 46, 42, 21, 5, 5, 96, 46, 42]
abbrev dktL_law_10 : List UInt8 := dkwL_law_10 ++ dktL_law_11
def dkwL_law_9 : List UInt8 := [153, 0, 5, 3, 172, 167, 11, 50, 43, 42, 21, 5, 4, 96, 46, 42, 21, 5, 5, 96, 46, 42, 21, 5]
abbrev dktL_law_9 : List UInt8 := dkwL_law_9 ++ dktL_law_10
def dkwL_law_8 : List UInt8 := [182, 0, 185, 21, 6, 159, 0, 5, 3, 172, 21, 6, 154, 0, 15, 45, 3, 47, 21, 7, 133, 148]
abbrev dktL_law_8 : List UInt8 := dkwL_law_8 ++ dktL_law_9
def dkwL_law_7 : List UInt8 := [184, 0, 188, 54, 6, 44, 42, 21, 5, 4, 96, 46, 42, 21, 5, 5, 96, 46, 182, 0, 191, 54, 7, 44]
abbrev dktL_law_7 : List UInt8 := dkwL_law_7 ++ dktL_law_8
def dkwL_law_6 : List UInt8 := [148, 153, 0, 5, 3, 172, 167, 11, 118, 43, 42, 21, 5, 4, 96, 46, 42, 21, 5, 5, 96, 46, 45]
abbrev dktL_law_6 : List UInt8 := dkwL_law_6 ++ dktL_law_7
def dkwL_law_5 : List UInt8 := [54, 7, 44, 182, 0, 185, 21, 6, 159, 0, 5, 3, 172, 21, 6, 154, 0, 15, 45, 3, 47, 21, 7, 133]
abbrev dktL_law_5 : List UInt8 := dkwL_law_5 ++ dktL_law_6
def dkwL_law_4 : List UInt8 := [54, 6, 44, 42, 21, 5, 4, 96, 46, 42, 21, 5, 5, 96, 46, 42, 21, 5, 6, 96, 46, 182, 0, 184]
abbrev dktL_law_4 : List UInt8 := dkwL_law_4 ++ dktL_law_5
def dkwL_law_3 : List UInt8 := [43, 42, 21, 5, 4, 96, 46, 42, 21, 5, 5, 96, 46, 42, 21, 5, 6, 96, 46, 45, 184, 0, 179]
abbrev dktL_law_3 : List UInt8 := dkwL_law_3 ++ dktL_law_4
def dkwL_law_2 : List UInt8 := [170, 0, 0, 0, 0, 0, 12, 207, 0, 0, 0, 0, 0, 0, 0, 62, 0, 0, 1, 12, 0, 0, 1, 92, 0, 0, 1, 160, 0, 0, 1, 240, 0, 0, 2, 52, 0, 0, 2, 115, 0, 0, 2, 171, 0, 0, 2, 184, 0, 0, 2, 240, 0, 0, 3, 40, 0, 0, 3, 96, 0, 0, 3, 152, 0, 0, 3, 165, 0, 0, 3, 221, 0, 0, 4, 28, 0, 0, 4, 41, 0, 0, 4, 109, 0, 0, 4, 177, 0, 0, 4, 240, 0, 0, 4, 253, 0, 0, 5, 53, 0, 0, 5, 121, 0, 0, 5, 134, 0, 0, 5, 190, 0, 0, 5, 246, 0, 0, 6, 46, 0, 0, 6, 121, 0, 0, 6, 177, 0, 0, 7, 1, 0, 0, 7, 57, 0, 0, 7, 125, 0, 0, 7, 188, 0, 0, 7, 244, 0, 0, 8, 44, 0, 0, 8, 100, 0, 0, 8, 156, 0, 0, 8, 212, 0, 0, 8, 225, 0, 0, 9, 25, 0, 0, 9, 81, 0, 0, 9, 94, 0, 0, 9, 107, 0, 0, 9, 120, 0, 0, 9, 133, 0, 0, 9, 146, 0, 0, 9, 159, 0, 0, 9, 172, 0, 0, 9, 228, 0, 0, 10, 28, 0, 0, 10, 93, 0, 0, 10, 159, 0, 0, 10, 172, 0, 0, 10, 228, 0, 0, 11, 28, 0, 0, 11, 84, 0, 0, 11, 142, 0, 0, 11, 186, 0, 0, 11, 230, 0, 0, 12, 18, 0, 0, 12, 62, 0, 0, 12, 106, 0, 0, 12, 150, 0, 0, 12, 163]
abbrev dktL_law_2 : List UInt8 := dkwL_law_2 ++ dktL_law_3
def dkwL_law_1 : List UInt8 := [58, 4, 3, 54, 5, 21, 5, 42, 190, 7, 100, 163, 12, 223, 42, 21, 5, 46, 16, 63, 126]
abbrev dktL_law_1 : List UInt8 := dkwL_law_1 ++ dktL_law_2
def dkwL_law_0 : List UInt8 := [187, 0, 8, 89, 183, 0, 175, 76, 187, 0, 176, 89, 183, 0, 178, 77, 4, 188, 11, 78, 4, 188, 7]
abbrev dktL_law_0 : List UInt8 := dkwL_law_0 ++ dktL_law_1
theorem dksL_law_0 : cL_law.data.toList.drop 0 = dktL_law_0 := by decide +kernel
theorem dksL_law_1 : cL_law.data.toList.drop 23 = dktL_law_1 := dk_seg dksL_law_0 23 rfl rfl
theorem dksL_law_2 : cL_law.data.toList.drop 44 = dktL_law_2 := dk_seg dksL_law_1 21 rfl rfl
theorem dksL_law_3 : cL_law.data.toList.drop 312 = dktL_law_3 := dk_seg dksL_law_2 268 rfl rfl
theorem dksL_law_4 : cL_law.data.toList.drop 335 = dktL_law_4 := dk_seg dksL_law_3 23 rfl rfl
theorem dksL_law_5 : cL_law.data.toList.drop 359 = dktL_law_5 := dk_seg dksL_law_4 24 rfl rfl
theorem dksL_law_6 : cL_law.data.toList.drop 383 = dktL_law_6 := dk_seg dksL_law_5 24 rfl rfl
theorem dksL_law_7 : cL_law.data.toList.drop 406 = dktL_law_7 := dk_seg dksL_law_6 23 rfl rfl
theorem dksL_law_8 : cL_law.data.toList.drop 430 = dktL_law_8 := dk_seg dksL_law_7 24 rfl rfl
theorem dksL_law_9 : cL_law.data.toList.drop 452 = dktL_law_9 := dk_seg dksL_law_8 22 rfl rfl
theorem dksL_law_10 : cL_law.data.toList.drop 476 = dktL_law_10 := dk_seg dksL_law_9 24 rfl rfl
theorem dksL_law_11 : cL_law.data.toList.drop 499 = dktL_law_11 := dk_seg dksL_law_10 23 rfl rfl
theorem dksL_law_12 : cL_law.data.toList.drop 522 = dktL_law_12 := dk_seg dksL_law_11 23 rfl rfl
theorem dksL_law_13 : cL_law.data.toList.drop 546 = dktL_law_13 := dk_seg dksL_law_12 24 rfl rfl
theorem dksL_law_14 : cL_law.data.toList.drop 570 = dktL_law_14 := dk_seg dksL_law_13 24 rfl rfl
theorem dksL_law_15 : cL_law.data.toList.drop 594 = dktL_law_15 := dk_seg dksL_law_14 24 rfl rfl
theorem dksL_law_16 : cL_law.data.toList.drop 616 = dktL_law_16 := dk_seg dksL_law_15 22 rfl rfl
theorem dksL_law_17 : cL_law.data.toList.drop 639 = dktL_law_17 := dk_seg dksL_law_16 23 rfl rfl
theorem dksL_law_18 : cL_law.data.toList.drop 663 = dktL_law_18 := dk_seg dksL_law_17 24 rfl rfl
theorem dksL_law_19 : cL_law.data.toList.drop 686 = dktL_law_19 := dk_seg dksL_law_18 23 rfl rfl
theorem dksL_law_20 : cL_law.data.toList.drop 709 = dktL_law_20 := dk_seg dksL_law_19 23 rfl rfl
theorem dksL_law_21 : cL_law.data.toList.drop 732 = dktL_law_21 := dk_seg dksL_law_20 23 rfl rfl
theorem dksL_law_22 : cL_law.data.toList.drop 755 = dktL_law_22 := dk_seg dksL_law_21 23 rfl rfl
theorem dksL_law_23 : cL_law.data.toList.drop 778 = dktL_law_23 := dk_seg dksL_law_22 23 rfl rfl
theorem dksL_law_24 : cL_law.data.toList.drop 802 = dktL_law_24 := dk_seg dksL_law_23 24 rfl rfl
theorem dksL_law_25 : cL_law.data.toList.drop 825 = dktL_law_25 := dk_seg dksL_law_24 23 rfl rfl
theorem dksL_law_26 : cL_law.data.toList.drop 849 = dktL_law_26 := dk_seg dksL_law_25 24 rfl rfl
theorem dksL_law_27 : cL_law.data.toList.drop 872 = dktL_law_27 := dk_seg dksL_law_26 23 rfl rfl
theorem dksL_law_28 : cL_law.data.toList.drop 896 = dktL_law_28 := dk_seg dksL_law_27 24 rfl rfl
theorem dksL_law_29 : cL_law.data.toList.drop 919 = dktL_law_29 := dk_seg dksL_law_28 23 rfl rfl
theorem dksL_law_30 : cL_law.data.toList.drop 943 = dktL_law_30 := dk_seg dksL_law_29 24 rfl rfl
theorem dksL_law_31 : cL_law.data.toList.drop 965 = dktL_law_31 := dk_seg dksL_law_30 22 rfl rfl
theorem dksL_law_32 : cL_law.data.toList.drop 988 = dktL_law_32 := dk_seg dksL_law_31 23 rfl rfl
theorem dksL_law_33 : cL_law.data.toList.drop 1012 = dktL_law_33 := dk_seg dksL_law_32 24 rfl rfl
theorem dksL_law_34 : cL_law.data.toList.drop 1035 = dktL_law_34 := dk_seg dksL_law_33 23 rfl rfl
theorem dksL_law_35 : cL_law.data.toList.drop 1059 = dktL_law_35 := dk_seg dksL_law_34 24 rfl rfl
theorem dksL_law_36 : cL_law.data.toList.drop 1083 = dktL_law_36 := dk_seg dksL_law_35 24 rfl rfl
theorem dksL_law_37 : cL_law.data.toList.drop 1107 = dktL_law_37 := dk_seg dksL_law_36 24 rfl rfl
theorem dksL_law_38 : cL_law.data.toList.drop 1130 = dktL_law_38 := dk_seg dksL_law_37 23 rfl rfl
theorem dksL_law_39 : cL_law.data.toList.drop 1152 = dktL_law_39 := dk_seg dksL_law_38 22 rfl rfl
theorem dksL_law_40 : cL_law.data.toList.drop 1174 = dktL_law_40 := dk_seg dksL_law_39 22 rfl rfl
theorem dksL_law_41 : cL_law.data.toList.drop 1198 = dktL_law_41 := dk_seg dksL_law_40 24 rfl rfl
theorem dksL_law_42 : cL_law.data.toList.drop 1220 = dktL_law_42 := dk_seg dksL_law_41 22 rfl rfl
theorem dksL_law_43 : cL_law.data.toList.drop 1242 = dktL_law_43 := dk_seg dksL_law_42 22 rfl rfl
theorem dksL_law_44 : cL_law.data.toList.drop 1265 = dktL_law_44 := dk_seg dksL_law_43 23 rfl rfl
theorem dksL_law_45 : cL_law.data.toList.drop 1289 = dktL_law_45 := dk_seg dksL_law_44 24 rfl rfl
theorem dksL_law_46 : cL_law.data.toList.drop 1313 = dktL_law_46 := dk_seg dksL_law_45 24 rfl rfl
theorem dksL_law_47 : cL_law.data.toList.drop 1336 = dktL_law_47 := dk_seg dksL_law_46 23 rfl rfl
theorem dksL_law_48 : cL_law.data.toList.drop 1359 = dktL_law_48 := dk_seg dksL_law_47 23 rfl rfl
theorem dksL_law_49 : cL_law.data.toList.drop 1383 = dktL_law_49 := dk_seg dksL_law_48 24 rfl rfl
theorem dksL_law_50 : cL_law.data.toList.drop 1407 = dktL_law_50 := dk_seg dksL_law_49 24 rfl rfl
theorem dksL_law_51 : cL_law.data.toList.drop 1431 = dktL_law_51 := dk_seg dksL_law_50 24 rfl rfl
theorem dksL_law_52 : cL_law.data.toList.drop 1453 = dktL_law_52 := dk_seg dksL_law_51 22 rfl rfl
theorem dksL_law_53 : cL_law.data.toList.drop 1477 = dktL_law_53 := dk_seg dksL_law_52 24 rfl rfl
theorem dksL_law_54 : cL_law.data.toList.drop 1501 = dktL_law_54 := dk_seg dksL_law_53 24 rfl rfl
theorem dksL_law_55 : cL_law.data.toList.drop 1525 = dktL_law_55 := dk_seg dksL_law_54 24 rfl rfl
theorem dksL_law_56 : cL_law.data.toList.drop 1549 = dktL_law_56 := dk_seg dksL_law_55 24 rfl rfl
theorem dksL_law_57 : cL_law.data.toList.drop 1572 = dktL_law_57 := dk_seg dksL_law_56 23 rfl rfl
theorem dksL_law_58 : cL_law.data.toList.drop 1596 = dktL_law_58 := dk_seg dksL_law_57 24 rfl rfl
theorem dksL_law_59 : cL_law.data.toList.drop 1618 = dktL_law_59 := dk_seg dksL_law_58 22 rfl rfl
theorem dksL_law_60 : cL_law.data.toList.drop 1640 = dktL_law_60 := dk_seg dksL_law_59 22 rfl rfl
theorem dksL_law_61 : cL_law.data.toList.drop 1664 = dktL_law_61 := dk_seg dksL_law_60 24 rfl rfl
theorem dksL_law_62 : cL_law.data.toList.drop 1688 = dktL_law_62 := dk_seg dksL_law_61 24 rfl rfl
theorem dksL_law_63 : cL_law.data.toList.drop 1712 = dktL_law_63 := dk_seg dksL_law_62 24 rfl rfl
theorem dksL_law_64 : cL_law.data.toList.drop 1736 = dktL_law_64 := dk_seg dksL_law_63 24 rfl rfl
theorem dksL_law_65 : cL_law.data.toList.drop 1759 = dktL_law_65 := dk_seg dksL_law_64 23 rfl rfl
theorem dksL_law_66 : cL_law.data.toList.drop 1783 = dktL_law_66 := dk_seg dksL_law_65 24 rfl rfl
theorem dksL_law_67 : cL_law.data.toList.drop 1807 = dktL_law_67 := dk_seg dksL_law_66 24 rfl rfl
theorem dksL_law_68 : cL_law.data.toList.drop 1829 = dktL_law_68 := dk_seg dksL_law_67 22 rfl rfl
theorem dksL_law_69 : cL_law.data.toList.drop 1852 = dktL_law_69 := dk_seg dksL_law_68 23 rfl rfl
theorem dksL_law_70 : cL_law.data.toList.drop 1875 = dktL_law_70 := dk_seg dksL_law_69 23 rfl rfl
theorem dksL_law_71 : cL_law.data.toList.drop 1899 = dktL_law_71 := dk_seg dksL_law_70 24 rfl rfl
theorem dksL_law_72 : cL_law.data.toList.drop 1923 = dktL_law_72 := dk_seg dksL_law_71 24 rfl rfl
theorem dksL_law_73 : cL_law.data.toList.drop 1947 = dktL_law_73 := dk_seg dksL_law_72 24 rfl rfl
theorem dksL_law_74 : cL_law.data.toList.drop 1969 = dktL_law_74 := dk_seg dksL_law_73 22 rfl rfl
theorem dksL_law_75 : cL_law.data.toList.drop 1992 = dktL_law_75 := dk_seg dksL_law_74 23 rfl rfl
theorem dksL_law_76 : cL_law.data.toList.drop 2016 = dktL_law_76 := dk_seg dksL_law_75 24 rfl rfl
theorem dksL_law_77 : cL_law.data.toList.drop 2039 = dktL_law_77 := dk_seg dksL_law_76 23 rfl rfl
theorem dksL_law_78 : cL_law.data.toList.drop 2062 = dktL_law_78 := dk_seg dksL_law_77 23 rfl rfl
theorem dksL_law_79 : cL_law.data.toList.drop 2086 = dktL_law_79 := dk_seg dksL_law_78 24 rfl rfl
theorem dksL_law_80 : cL_law.data.toList.drop 2109 = dktL_law_80 := dk_seg dksL_law_79 23 rfl rfl
theorem dksL_law_81 : cL_law.data.toList.drop 2133 = dktL_law_81 := dk_seg dksL_law_80 24 rfl rfl
theorem dksL_law_82 : cL_law.data.toList.drop 2156 = dktL_law_82 := dk_seg dksL_law_81 23 rfl rfl
theorem dksL_law_83 : cL_law.data.toList.drop 2180 = dktL_law_83 := dk_seg dksL_law_82 24 rfl rfl
theorem dksL_law_84 : cL_law.data.toList.drop 2203 = dktL_law_84 := dk_seg dksL_law_83 23 rfl rfl
theorem dksL_law_85 : cL_law.data.toList.drop 2227 = dktL_law_85 := dk_seg dksL_law_84 24 rfl rfl
theorem dksL_law_86 : cL_law.data.toList.drop 2250 = dktL_law_86 := dk_seg dksL_law_85 23 rfl rfl
theorem dksL_law_87 : cL_law.data.toList.drop 2274 = dktL_law_87 := dk_seg dksL_law_86 24 rfl rfl
theorem dksL_law_88 : cL_law.data.toList.drop 2296 = dktL_law_88 := dk_seg dksL_law_87 22 rfl rfl
theorem dksL_law_89 : cL_law.data.toList.drop 2319 = dktL_law_89 := dk_seg dksL_law_88 23 rfl rfl
theorem dksL_law_90 : cL_law.data.toList.drop 2343 = dktL_law_90 := dk_seg dksL_law_89 24 rfl rfl
theorem dksL_law_91 : cL_law.data.toList.drop 2365 = dktL_law_91 := dk_seg dksL_law_90 22 rfl rfl
theorem dksL_law_92 : cL_law.data.toList.drop 2388 = dktL_law_92 := dk_seg dksL_law_91 23 rfl rfl
theorem dksL_law_93 : cL_law.data.toList.drop 2411 = dktL_law_93 := dk_seg dksL_law_92 23 rfl rfl
theorem dksL_law_94 : cL_law.data.toList.drop 2434 = dktL_law_94 := dk_seg dksL_law_93 23 rfl rfl
theorem dksL_law_95 : cL_law.data.toList.drop 2456 = dktL_law_95 := dk_seg dksL_law_94 22 rfl rfl
theorem dksL_law_96 : cL_law.data.toList.drop 2480 = dktL_law_96 := dk_seg dksL_law_95 24 rfl rfl
theorem dksL_law_97 : cL_law.data.toList.drop 2502 = dktL_law_97 := dk_seg dksL_law_96 22 rfl rfl
theorem dksL_law_98 : cL_law.data.toList.drop 2526 = dktL_law_98 := dk_seg dksL_law_97 24 rfl rfl
theorem dksL_law_99 : cL_law.data.toList.drop 2549 = dktL_law_99 := dk_seg dksL_law_98 23 rfl rfl
theorem dksL_law_100 : cL_law.data.toList.drop 2573 = dktL_law_100 := dk_seg dksL_law_99 24 rfl rfl
theorem dksL_law_101 : cL_law.data.toList.drop 2596 = dktL_law_101 := dk_seg dksL_law_100 23 rfl rfl
theorem dksL_law_102 : cL_law.data.toList.drop 2620 = dktL_law_102 := dk_seg dksL_law_101 24 rfl rfl
theorem dksL_law_103 : cL_law.data.toList.drop 2644 = dktL_law_103 := dk_seg dksL_law_102 24 rfl rfl
theorem dksL_law_104 : cL_law.data.toList.drop 2668 = dktL_law_104 := dk_seg dksL_law_103 24 rfl rfl
theorem dksL_law_105 : cL_law.data.toList.drop 2692 = dktL_law_105 := dk_seg dksL_law_104 24 rfl rfl
theorem dksL_law_106 : cL_law.data.toList.drop 2715 = dktL_law_106 := dk_seg dksL_law_105 23 rfl rfl
theorem dksL_law_107 : cL_law.data.toList.drop 2738 = dktL_law_107 := dk_seg dksL_law_106 23 rfl rfl
theorem dksL_law_108 : cL_law.data.toList.drop 2760 = dktL_law_108 := dk_seg dksL_law_107 22 rfl rfl
theorem dksL_law_109 : cL_law.data.toList.drop 2784 = dktL_law_109 := dk_seg dksL_law_108 24 rfl rfl
theorem dksL_law_110 : cL_law.data.toList.drop 2807 = dktL_law_110 := dk_seg dksL_law_109 23 rfl rfl
theorem dksL_law_111 : cL_law.data.toList.drop 2829 = dktL_law_111 := dk_seg dksL_law_110 22 rfl rfl
theorem dksL_law_112 : cL_law.data.toList.drop 2852 = dktL_law_112 := dk_seg dksL_law_111 23 rfl rfl
theorem dksL_law_113 : cL_law.data.toList.drop 2876 = dktL_law_113 := dk_seg dksL_law_112 24 rfl rfl
theorem dksL_law_114 : cL_law.data.toList.drop 2899 = dktL_law_114 := dk_seg dksL_law_113 23 rfl rfl
theorem dksL_law_115 : cL_law.data.toList.drop 2923 = dktL_law_115 := dk_seg dksL_law_114 24 rfl rfl
theorem dksL_law_116 : cL_law.data.toList.drop 2946 = dktL_law_116 := dk_seg dksL_law_115 23 rfl rfl
theorem dksL_law_117 : cL_law.data.toList.drop 2969 = dktL_law_117 := dk_seg dksL_law_116 23 rfl rfl
theorem dksL_law_118 : cL_law.data.toList.drop 2993 = dktL_law_118 := dk_seg dksL_law_117 24 rfl rfl
theorem dksL_law_119 : cL_law.data.toList.drop 3016 = dktL_law_119 := dk_seg dksL_law_118 23 rfl rfl
theorem dksL_law_120 : cL_law.data.toList.drop 3038 = dktL_law_120 := dk_seg dksL_law_119 22 rfl rfl
theorem dksL_law_121 : cL_law.data.toList.drop 3060 = dktL_law_121 := dk_seg dksL_law_120 22 rfl rfl
theorem dksL_law_122 : cL_law.data.toList.drop 3082 = dktL_law_122 := dk_seg dksL_law_121 22 rfl rfl
theorem dksL_law_123 : cL_law.data.toList.drop 3104 = dktL_law_123 := dk_seg dksL_law_122 22 rfl rfl
theorem dksL_law_124 : cL_law.data.toList.drop 3126 = dktL_law_124 := dk_seg dksL_law_123 22 rfl rfl
theorem dksL_law_125 : cL_law.data.toList.drop 3148 = dktL_law_125 := dk_seg dksL_law_124 22 rfl rfl
theorem dksL_law_126 : cL_law.data.toList.drop 3170 = dktL_law_126 := dk_seg dksL_law_125 22 rfl rfl
theorem dksL_law_127 : cL_law.data.toList.drop 3192 = dktL_law_127 := dk_seg dksL_law_126 22 rfl rfl
theorem dksL_law_128 : cL_law.data.toList.drop 3214 = dktL_law_128 := dk_seg dksL_law_127 22 rfl rfl
theorem dksL_law_129 : cL_law.data.toList.drop 3236 = dktL_law_129 := dk_seg dksL_law_128 22 rfl rfl
theorem dksL_law_130 : cL_law.data.toList.drop 3258 = dktL_law_130 := dk_seg dksL_law_129 22 rfl rfl
theorem dksL_law_131 : cL_law.data.toList.drop 3281 = dktL_law_131 := dk_seg dksL_law_130 23 rfl rfl
theorem dksL_law_132 : cL_law.data.toList.drop 3305 = dktL_law_132 := dk_seg dksL_law_131 24 rfl rfl
theorem dksL_law_133 : cL_law.data.toList.drop 3329 = dktL_law_133 := dk_seg dksL_law_132 24 rfl rfl
theorem dL_law_0 : decode cL_law 0 = .ok (.new 8, 3) := dk_187 0 8 (dk_at dksL_law_0 0 rfl rfl)
theorem dL_law_3 : decode cL_law 3 = .ok (.dup, 1) := dk_89 (dk_at dksL_law_0 3 rfl rfl)
theorem dL_law_4 : decode cL_law 4 = .ok (.invokespecial 175, 3) := dk_183 0 175 (dk_at dksL_law_0 4 rfl rfl)
theorem dL_law_7 : decode cL_law 7 = .ok (.astore_n 1, 1) := dk_76 (dk_at dksL_law_0 7 rfl rfl)
theorem dL_law_8 : decode cL_law 8 = .ok (.new 176, 3) := dk_187 0 176 (dk_at dksL_law_0 8 rfl rfl)
theorem dL_law_11 : decode cL_law 11 = .ok (.dup, 1) := dk_89 (dk_at dksL_law_0 11 rfl rfl)
theorem dL_law_12 : decode cL_law 12 = .ok (.invokespecial 178, 3) := dk_183 0 178 (dk_at dksL_law_0 12 rfl rfl)
theorem dL_law_15 : decode cL_law 15 = .ok (.astore_n 2, 1) := dk_77 (dk_at dksL_law_0 15 rfl rfl)
theorem dL_law_16 : decode cL_law 16 = .ok (.iconst 1, 1) := dk_4 (dk_at dksL_law_0 16 rfl rfl)
theorem dL_law_17 : decode cL_law 17 = .ok (.newarray .long, 2) := dk_188_11 (dk_at dksL_law_0 17 rfl rfl)
theorem dL_law_19 : decode cL_law 19 = .ok (.astore_n 3, 1) := dk_78 (dk_at dksL_law_0 19 rfl rfl)
theorem dL_law_20 : decode cL_law 20 = .ok (.iconst 1, 1) := dk_4 (dk_at dksL_law_0 20 rfl rfl)
theorem dL_law_21 : decode cL_law 21 = .ok (.newarray .double, 2) := dk_188_7 (dk_at dksL_law_0 21 rfl rfl)
theorem dL_law_23 : decode cL_law 23 = .ok (.astore 4, 2) := dk_58 4 (dk_at dksL_law_1 0 rfl rfl)
theorem dL_law_25 : decode cL_law 25 = .ok (.iconst 0, 1) := dk_3 (dk_at dksL_law_1 2 rfl rfl)
theorem dL_law_26 : decode cL_law 26 = .ok (.istore 5, 2) := dk_54 5 (dk_at dksL_law_1 3 rfl rfl)
theorem dL_law_28 : decode cL_law 28 = .ok (.iload 5, 2) := dk_21 5 (dk_at dksL_law_1 5 rfl rfl)
theorem dL_law_30 : decode cL_law 30 = .ok (.aload_n 0, 1) := dk_42 (dk_at dksL_law_1 7 rfl rfl)
theorem dL_law_31 : decode cL_law 31 = .ok (.arraylength, 1) := dk_190 (dk_at dksL_law_1 8 rfl rfl)
theorem dL_law_32 : decode cL_law 32 = .ok (.iconst 4, 1) := dk_7 (dk_at dksL_law_1 9 rfl rfl)
theorem dL_law_33 : decode cL_law 33 = .ok (.isub, 1) := dk_100 (dk_at dksL_law_1 10 rfl rfl)
theorem dL_law_34 : decode cL_law 34 = .ok (.if_icmp .gt 3295, 3) := dk_163 12 223 (dk_at dksL_law_1 11 rfl rfl)
theorem dL_law_37 : decode cL_law 37 = .ok (.aload_n 0, 1) := dk_42 (dk_at dksL_law_1 14 rfl rfl)
theorem dL_law_38 : decode cL_law 38 = .ok (.iload 5, 2) := dk_21 5 (dk_at dksL_law_1 15 rfl rfl)
theorem dL_law_40 : decode cL_law 40 = .ok (.iaload, 1) := dk_46 (dk_at dksL_law_1 17 rfl rfl)
theorem dL_law_41 : decode cL_law 41 = .ok (.bipush 63, 2) := dk_16 63 (dk_at dksL_law_1 18 rfl rfl)
theorem dL_law_43 : decode cL_law 43 = .ok (.iand, 1) := dk_126 (dk_at dksL_law_1 20 rfl rfl)
theorem dL_law_44 : decode cL_law 44 = .ok (.tableswitch 3279 0 62 #[268, 348, 416, 496, 564, 627, 683, 696, 752, 808, 864, 920, 933, 989, 1052, 1065, 1133, 1201, 1264, 1277, 1333, 1401, 1414, 1470, 1526, 1582, 1657, 1713, 1793, 1849, 1917, 1980, 2036, 2092, 2148, 2204, 2260, 2273, 2329, 2385, 2398, 2411, 2424, 2437, 2450, 2463, 2476, 2532, 2588, 2653, 2719, 2732, 2788, 2844, 2900, 2958, 3002, 3046, 3090, 3134, 3178, 3222, 3235], 268) := by decide +kernel
theorem dL_law_312 : decode cL_law 312 = .ok (.aload_n 1, 1) := dk_43 (dk_at dksL_law_3 0 rfl rfl)
theorem dL_law_313 : decode cL_law 313 = .ok (.aload_n 0, 1) := dk_42 (dk_at dksL_law_3 1 rfl rfl)
theorem dL_law_314 : decode cL_law 314 = .ok (.iload 5, 2) := dk_21 5 (dk_at dksL_law_3 2 rfl rfl)
theorem dL_law_316 : decode cL_law 316 = .ok (.iconst 1, 1) := dk_4 (dk_at dksL_law_3 4 rfl rfl)
theorem dL_law_317 : decode cL_law 317 = .ok (.iadd, 1) := dk_96 (dk_at dksL_law_3 5 rfl rfl)
theorem dL_law_318 : decode cL_law 318 = .ok (.iaload, 1) := dk_46 (dk_at dksL_law_3 6 rfl rfl)
theorem dL_law_319 : decode cL_law 319 = .ok (.aload_n 0, 1) := dk_42 (dk_at dksL_law_3 7 rfl rfl)
theorem dL_law_320 : decode cL_law 320 = .ok (.iload 5, 2) := dk_21 5 (dk_at dksL_law_3 8 rfl rfl)
theorem dL_law_322 : decode cL_law 322 = .ok (.iconst 2, 1) := dk_5 (dk_at dksL_law_3 10 rfl rfl)
theorem dL_law_323 : decode cL_law 323 = .ok (.iadd, 1) := dk_96 (dk_at dksL_law_3 11 rfl rfl)
theorem dL_law_324 : decode cL_law 324 = .ok (.iaload, 1) := dk_46 (dk_at dksL_law_3 12 rfl rfl)
theorem dL_law_325 : decode cL_law 325 = .ok (.aload_n 0, 1) := dk_42 (dk_at dksL_law_3 13 rfl rfl)
theorem dL_law_326 : decode cL_law 326 = .ok (.iload 5, 2) := dk_21 5 (dk_at dksL_law_3 14 rfl rfl)
theorem dL_law_328 : decode cL_law 328 = .ok (.iconst 3, 1) := dk_6 (dk_at dksL_law_3 16 rfl rfl)
theorem dL_law_329 : decode cL_law 329 = .ok (.iadd, 1) := dk_96 (dk_at dksL_law_3 17 rfl rfl)
theorem dL_law_330 : decode cL_law 330 = .ok (.iaload, 1) := dk_46 (dk_at dksL_law_3 18 rfl rfl)
theorem dL_law_331 : decode cL_law 331 = .ok (.aload_n 3, 1) := dk_45 (dk_at dksL_law_3 19 rfl rfl)
theorem dL_law_332 : decode cL_law 332 = .ok (.invokestatic 179, 3) := dk_184 0 179 (dk_at dksL_law_3 20 rfl rfl)
theorem dL_law_335 : decode cL_law 335 = .ok (.istore 6, 2) := dk_54 6 (dk_at dksL_law_4 0 rfl rfl)
theorem dL_law_337 : decode cL_law 337 = .ok (.aload_n 2, 1) := dk_44 (dk_at dksL_law_4 2 rfl rfl)
theorem dL_law_338 : decode cL_law 338 = .ok (.aload_n 0, 1) := dk_42 (dk_at dksL_law_4 3 rfl rfl)
theorem dL_law_339 : decode cL_law 339 = .ok (.iload 5, 2) := dk_21 5 (dk_at dksL_law_4 4 rfl rfl)
theorem dL_law_341 : decode cL_law 341 = .ok (.iconst 1, 1) := dk_4 (dk_at dksL_law_4 6 rfl rfl)
theorem dL_law_342 : decode cL_law 342 = .ok (.iadd, 1) := dk_96 (dk_at dksL_law_4 7 rfl rfl)
theorem dL_law_343 : decode cL_law 343 = .ok (.iaload, 1) := dk_46 (dk_at dksL_law_4 8 rfl rfl)
theorem dL_law_344 : decode cL_law 344 = .ok (.aload_n 0, 1) := dk_42 (dk_at dksL_law_4 9 rfl rfl)
theorem dL_law_345 : decode cL_law 345 = .ok (.iload 5, 2) := dk_21 5 (dk_at dksL_law_4 10 rfl rfl)
theorem dL_law_347 : decode cL_law 347 = .ok (.iconst 2, 1) := dk_5 (dk_at dksL_law_4 12 rfl rfl)
theorem dL_law_348 : decode cL_law 348 = .ok (.iadd, 1) := dk_96 (dk_at dksL_law_4 13 rfl rfl)
theorem dL_law_349 : decode cL_law 349 = .ok (.iaload, 1) := dk_46 (dk_at dksL_law_4 14 rfl rfl)
theorem dL_law_350 : decode cL_law 350 = .ok (.aload_n 0, 1) := dk_42 (dk_at dksL_law_4 15 rfl rfl)
theorem dL_law_351 : decode cL_law 351 = .ok (.iload 5, 2) := dk_21 5 (dk_at dksL_law_4 16 rfl rfl)
theorem dL_law_353 : decode cL_law 353 = .ok (.iconst 3, 1) := dk_6 (dk_at dksL_law_4 18 rfl rfl)
theorem dL_law_354 : decode cL_law 354 = .ok (.iadd, 1) := dk_96 (dk_at dksL_law_4 19 rfl rfl)
theorem dL_law_355 : decode cL_law 355 = .ok (.iaload, 1) := dk_46 (dk_at dksL_law_4 20 rfl rfl)
theorem dL_law_356 : decode cL_law 356 = .ok (.invokevirtual 184, 3) := dk_182 0 184 (dk_at dksL_law_4 21 rfl rfl)
theorem dL_law_359 : decode cL_law 359 = .ok (.istore 7, 2) := dk_54 7 (dk_at dksL_law_5 0 rfl rfl)
theorem dL_law_361 : decode cL_law 361 = .ok (.aload_n 2, 1) := dk_44 (dk_at dksL_law_5 2 rfl rfl)
theorem dL_law_362 : decode cL_law 362 = .ok (.invokevirtual 185, 3) := dk_182 0 185 (dk_at dksL_law_5 3 rfl rfl)
theorem dL_law_365 : decode cL_law 365 = .ok (.iload 6, 2) := dk_21 6 (dk_at dksL_law_5 6 rfl rfl)
theorem dL_law_367 : decode cL_law 367 = .ok (.if_icmp .eq 5, 3) := dk_159 0 5 (dk_at dksL_law_5 8 rfl rfl)
theorem dL_law_370 : decode cL_law 370 = .ok (.iconst 0, 1) := dk_3 (dk_at dksL_law_5 11 rfl rfl)
theorem dL_law_371 : decode cL_law 371 = .ok (.ireturn, 1) := dk_172 (dk_at dksL_law_5 12 rfl rfl)
theorem dL_law_372 : decode cL_law 372 = .ok (.iload 6, 2) := dk_21 6 (dk_at dksL_law_5 13 rfl rfl)
theorem dL_law_374 : decode cL_law 374 = .ok (.ifCond .ne 15, 3) := dk_154 0 15 (dk_at dksL_law_5 15 rfl rfl)
theorem dL_law_377 : decode cL_law 377 = .ok (.aload_n 3, 1) := dk_45 (dk_at dksL_law_5 18 rfl rfl)
theorem dL_law_378 : decode cL_law 378 = .ok (.iconst 0, 1) := dk_3 (dk_at dksL_law_5 19 rfl rfl)
theorem dL_law_379 : decode cL_law 379 = .ok (.laload, 1) := dk_47 (dk_at dksL_law_5 20 rfl rfl)
theorem dL_law_380 : decode cL_law 380 = .ok (.iload 7, 2) := dk_21 7 (dk_at dksL_law_5 21 rfl rfl)
theorem dL_law_382 : decode cL_law 382 = .ok (.i2l, 1) := dk_133 (dk_at dksL_law_5 23 rfl rfl)
theorem dL_law_383 : decode cL_law 383 = .ok (.lcmp, 1) := dk_148 (dk_at dksL_law_6 0 rfl rfl)
theorem dL_law_384 : decode cL_law 384 = .ok (.ifCond .eq 5, 3) := dk_153 0 5 (dk_at dksL_law_6 1 rfl rfl)
theorem dL_law_387 : decode cL_law 387 = .ok (.iconst 0, 1) := dk_3 (dk_at dksL_law_6 4 rfl rfl)
theorem dL_law_388 : decode cL_law 388 = .ok (.ireturn, 1) := dk_172 (dk_at dksL_law_6 5 rfl rfl)
theorem dL_law_389 : decode cL_law 389 = .ok (.goto 2934, 3) := dk_167 11 118 (dk_at dksL_law_6 6 rfl rfl)
theorem dL_law_392 : decode cL_law 392 = .ok (.aload_n 1, 1) := dk_43 (dk_at dksL_law_6 9 rfl rfl)
theorem dL_law_393 : decode cL_law 393 = .ok (.aload_n 0, 1) := dk_42 (dk_at dksL_law_6 10 rfl rfl)
theorem dL_law_394 : decode cL_law 394 = .ok (.iload 5, 2) := dk_21 5 (dk_at dksL_law_6 11 rfl rfl)
theorem dL_law_396 : decode cL_law 396 = .ok (.iconst 1, 1) := dk_4 (dk_at dksL_law_6 13 rfl rfl)
theorem dL_law_397 : decode cL_law 397 = .ok (.iadd, 1) := dk_96 (dk_at dksL_law_6 14 rfl rfl)
theorem dL_law_398 : decode cL_law 398 = .ok (.iaload, 1) := dk_46 (dk_at dksL_law_6 15 rfl rfl)
theorem dL_law_399 : decode cL_law 399 = .ok (.aload_n 0, 1) := dk_42 (dk_at dksL_law_6 16 rfl rfl)
theorem dL_law_400 : decode cL_law 400 = .ok (.iload 5, 2) := dk_21 5 (dk_at dksL_law_6 17 rfl rfl)
theorem dL_law_402 : decode cL_law 402 = .ok (.iconst 2, 1) := dk_5 (dk_at dksL_law_6 19 rfl rfl)
theorem dL_law_403 : decode cL_law 403 = .ok (.iadd, 1) := dk_96 (dk_at dksL_law_6 20 rfl rfl)
theorem dL_law_404 : decode cL_law 404 = .ok (.iaload, 1) := dk_46 (dk_at dksL_law_6 21 rfl rfl)
theorem dL_law_405 : decode cL_law 405 = .ok (.aload_n 3, 1) := dk_45 (dk_at dksL_law_6 22 rfl rfl)
theorem dL_law_406 : decode cL_law 406 = .ok (.invokestatic 188, 3) := dk_184 0 188 (dk_at dksL_law_7 0 rfl rfl)
theorem dL_law_409 : decode cL_law 409 = .ok (.istore 6, 2) := dk_54 6 (dk_at dksL_law_7 3 rfl rfl)
theorem dL_law_411 : decode cL_law 411 = .ok (.aload_n 2, 1) := dk_44 (dk_at dksL_law_7 5 rfl rfl)
theorem dL_law_412 : decode cL_law 412 = .ok (.aload_n 0, 1) := dk_42 (dk_at dksL_law_7 6 rfl rfl)
theorem dL_law_413 : decode cL_law 413 = .ok (.iload 5, 2) := dk_21 5 (dk_at dksL_law_7 7 rfl rfl)
theorem dL_law_415 : decode cL_law 415 = .ok (.iconst 1, 1) := dk_4 (dk_at dksL_law_7 9 rfl rfl)
theorem dL_law_416 : decode cL_law 416 = .ok (.iadd, 1) := dk_96 (dk_at dksL_law_7 10 rfl rfl)
theorem dL_law_417 : decode cL_law 417 = .ok (.iaload, 1) := dk_46 (dk_at dksL_law_7 11 rfl rfl)
theorem dL_law_418 : decode cL_law 418 = .ok (.aload_n 0, 1) := dk_42 (dk_at dksL_law_7 12 rfl rfl)
theorem dL_law_419 : decode cL_law 419 = .ok (.iload 5, 2) := dk_21 5 (dk_at dksL_law_7 13 rfl rfl)
theorem dL_law_421 : decode cL_law 421 = .ok (.iconst 2, 1) := dk_5 (dk_at dksL_law_7 15 rfl rfl)
theorem dL_law_422 : decode cL_law 422 = .ok (.iadd, 1) := dk_96 (dk_at dksL_law_7 16 rfl rfl)
theorem dL_law_423 : decode cL_law 423 = .ok (.iaload, 1) := dk_46 (dk_at dksL_law_7 17 rfl rfl)
theorem dL_law_424 : decode cL_law 424 = .ok (.invokevirtual 191, 3) := dk_182 0 191 (dk_at dksL_law_7 18 rfl rfl)
theorem dL_law_427 : decode cL_law 427 = .ok (.istore 7, 2) := dk_54 7 (dk_at dksL_law_7 21 rfl rfl)
theorem dL_law_429 : decode cL_law 429 = .ok (.aload_n 2, 1) := dk_44 (dk_at dksL_law_7 23 rfl rfl)
theorem dL_law_430 : decode cL_law 430 = .ok (.invokevirtual 185, 3) := dk_182 0 185 (dk_at dksL_law_8 0 rfl rfl)
theorem dL_law_433 : decode cL_law 433 = .ok (.iload 6, 2) := dk_21 6 (dk_at dksL_law_8 3 rfl rfl)
theorem dL_law_435 : decode cL_law 435 = .ok (.if_icmp .eq 5, 3) := dk_159 0 5 (dk_at dksL_law_8 5 rfl rfl)
theorem dL_law_438 : decode cL_law 438 = .ok (.iconst 0, 1) := dk_3 (dk_at dksL_law_8 8 rfl rfl)
theorem dL_law_439 : decode cL_law 439 = .ok (.ireturn, 1) := dk_172 (dk_at dksL_law_8 9 rfl rfl)
theorem dL_law_440 : decode cL_law 440 = .ok (.iload 6, 2) := dk_21 6 (dk_at dksL_law_8 10 rfl rfl)
theorem dL_law_442 : decode cL_law 442 = .ok (.ifCond .ne 15, 3) := dk_154 0 15 (dk_at dksL_law_8 12 rfl rfl)
theorem dL_law_445 : decode cL_law 445 = .ok (.aload_n 3, 1) := dk_45 (dk_at dksL_law_8 15 rfl rfl)
theorem dL_law_446 : decode cL_law 446 = .ok (.iconst 0, 1) := dk_3 (dk_at dksL_law_8 16 rfl rfl)
theorem dL_law_447 : decode cL_law 447 = .ok (.laload, 1) := dk_47 (dk_at dksL_law_8 17 rfl rfl)
theorem dL_law_448 : decode cL_law 448 = .ok (.iload 7, 2) := dk_21 7 (dk_at dksL_law_8 18 rfl rfl)
theorem dL_law_450 : decode cL_law 450 = .ok (.i2l, 1) := dk_133 (dk_at dksL_law_8 20 rfl rfl)
theorem dL_law_451 : decode cL_law 451 = .ok (.lcmp, 1) := dk_148 (dk_at dksL_law_8 21 rfl rfl)
theorem dL_law_452 : decode cL_law 452 = .ok (.ifCond .eq 5, 3) := dk_153 0 5 (dk_at dksL_law_9 0 rfl rfl)
theorem dL_law_455 : decode cL_law 455 = .ok (.iconst 0, 1) := dk_3 (dk_at dksL_law_9 3 rfl rfl)
theorem dL_law_456 : decode cL_law 456 = .ok (.ireturn, 1) := dk_172 (dk_at dksL_law_9 4 rfl rfl)
theorem dL_law_457 : decode cL_law 457 = .ok (.goto 2866, 3) := dk_167 11 50 (dk_at dksL_law_9 5 rfl rfl)
theorem dL_law_460 : decode cL_law 460 = .ok (.aload_n 1, 1) := dk_43 (dk_at dksL_law_9 8 rfl rfl)
theorem dL_law_461 : decode cL_law 461 = .ok (.aload_n 0, 1) := dk_42 (dk_at dksL_law_9 9 rfl rfl)
theorem dL_law_462 : decode cL_law 462 = .ok (.iload 5, 2) := dk_21 5 (dk_at dksL_law_9 10 rfl rfl)
theorem dL_law_464 : decode cL_law 464 = .ok (.iconst 1, 1) := dk_4 (dk_at dksL_law_9 12 rfl rfl)
theorem dL_law_465 : decode cL_law 465 = .ok (.iadd, 1) := dk_96 (dk_at dksL_law_9 13 rfl rfl)
theorem dL_law_466 : decode cL_law 466 = .ok (.iaload, 1) := dk_46 (dk_at dksL_law_9 14 rfl rfl)
theorem dL_law_467 : decode cL_law 467 = .ok (.aload_n 0, 1) := dk_42 (dk_at dksL_law_9 15 rfl rfl)
theorem dL_law_468 : decode cL_law 468 = .ok (.iload 5, 2) := dk_21 5 (dk_at dksL_law_9 16 rfl rfl)
theorem dL_law_470 : decode cL_law 470 = .ok (.iconst 2, 1) := dk_5 (dk_at dksL_law_9 18 rfl rfl)
theorem dL_law_471 : decode cL_law 471 = .ok (.iadd, 1) := dk_96 (dk_at dksL_law_9 19 rfl rfl)
theorem dL_law_472 : decode cL_law 472 = .ok (.iaload, 1) := dk_46 (dk_at dksL_law_9 20 rfl rfl)
theorem dL_law_473 : decode cL_law 473 = .ok (.aload_n 0, 1) := dk_42 (dk_at dksL_law_9 21 rfl rfl)
theorem dL_law_474 : decode cL_law 474 = .ok (.iload 5, 2) := dk_21 5 (dk_at dksL_law_9 22 rfl rfl)
theorem dL_law_476 : decode cL_law 476 = .ok (.iconst 3, 1) := dk_6 (dk_at dksL_law_10 0 rfl rfl)
theorem dL_law_477 : decode cL_law 477 = .ok (.iadd, 1) := dk_96 (dk_at dksL_law_10 1 rfl rfl)
theorem dL_law_478 : decode cL_law 478 = .ok (.iaload, 1) := dk_46 (dk_at dksL_law_10 2 rfl rfl)
theorem dL_law_479 : decode cL_law 479 = .ok (.aload_n 3, 1) := dk_45 (dk_at dksL_law_10 3 rfl rfl)
theorem dL_law_480 : decode cL_law 480 = .ok (.invokestatic 192, 3) := dk_184 0 192 (dk_at dksL_law_10 4 rfl rfl)
theorem dL_law_483 : decode cL_law 483 = .ok (.istore 6, 2) := dk_54 6 (dk_at dksL_law_10 7 rfl rfl)
theorem dL_law_485 : decode cL_law 485 = .ok (.aload_n 2, 1) := dk_44 (dk_at dksL_law_10 9 rfl rfl)
theorem dL_law_486 : decode cL_law 486 = .ok (.aload_n 0, 1) := dk_42 (dk_at dksL_law_10 10 rfl rfl)
theorem dL_law_487 : decode cL_law 487 = .ok (.iload 5, 2) := dk_21 5 (dk_at dksL_law_10 11 rfl rfl)
theorem dL_law_489 : decode cL_law 489 = .ok (.iconst 1, 1) := dk_4 (dk_at dksL_law_10 13 rfl rfl)
theorem dL_law_490 : decode cL_law 490 = .ok (.iadd, 1) := dk_96 (dk_at dksL_law_10 14 rfl rfl)
theorem dL_law_491 : decode cL_law 491 = .ok (.iaload, 1) := dk_46 (dk_at dksL_law_10 15 rfl rfl)
theorem dL_law_492 : decode cL_law 492 = .ok (.aload_n 0, 1) := dk_42 (dk_at dksL_law_10 16 rfl rfl)
theorem dL_law_493 : decode cL_law 493 = .ok (.iload 5, 2) := dk_21 5 (dk_at dksL_law_10 17 rfl rfl)
theorem dL_law_495 : decode cL_law 495 = .ok (.iconst 2, 1) := dk_5 (dk_at dksL_law_10 19 rfl rfl)
theorem dL_law_496 : decode cL_law 496 = .ok (.iadd, 1) := dk_96 (dk_at dksL_law_10 20 rfl rfl)
theorem dL_law_497 : decode cL_law 497 = .ok (.iaload, 1) := dk_46 (dk_at dksL_law_10 21 rfl rfl)
theorem dL_law_498 : decode cL_law 498 = .ok (.aload_n 0, 1) := dk_42 (dk_at dksL_law_10 22 rfl rfl)
theorem dL_law_499 : decode cL_law 499 = .ok (.iload 5, 2) := dk_21 5 (dk_at dksL_law_11 0 rfl rfl)
theorem dL_law_501 : decode cL_law 501 = .ok (.iconst 3, 1) := dk_6 (dk_at dksL_law_11 2 rfl rfl)
theorem dL_law_502 : decode cL_law 502 = .ok (.iadd, 1) := dk_96 (dk_at dksL_law_11 3 rfl rfl)
theorem dL_law_503 : decode cL_law 503 = .ok (.iaload, 1) := dk_46 (dk_at dksL_law_11 4 rfl rfl)
theorem dL_law_504 : decode cL_law 504 = .ok (.invokevirtual 194, 3) := dk_182 0 194 (dk_at dksL_law_11 5 rfl rfl)
theorem dL_law_507 : decode cL_law 507 = .ok (.istore 7, 2) := dk_54 7 (dk_at dksL_law_11 8 rfl rfl)
theorem dL_law_509 : decode cL_law 509 = .ok (.aload_n 2, 1) := dk_44 (dk_at dksL_law_11 10 rfl rfl)
theorem dL_law_510 : decode cL_law 510 = .ok (.invokevirtual 185, 3) := dk_182 0 185 (dk_at dksL_law_11 11 rfl rfl)
theorem dL_law_513 : decode cL_law 513 = .ok (.iload 6, 2) := dk_21 6 (dk_at dksL_law_11 14 rfl rfl)
theorem dL_law_515 : decode cL_law 515 = .ok (.if_icmp .eq 5, 3) := dk_159 0 5 (dk_at dksL_law_11 16 rfl rfl)
theorem dL_law_518 : decode cL_law 518 = .ok (.iconst 0, 1) := dk_3 (dk_at dksL_law_11 19 rfl rfl)
theorem dL_law_519 : decode cL_law 519 = .ok (.ireturn, 1) := dk_172 (dk_at dksL_law_11 20 rfl rfl)
theorem dL_law_520 : decode cL_law 520 = .ok (.iload 6, 2) := dk_21 6 (dk_at dksL_law_11 21 rfl rfl)
theorem dL_law_522 : decode cL_law 522 = .ok (.ifCond .ne 15, 3) := dk_154 0 15 (dk_at dksL_law_12 0 rfl rfl)
theorem dL_law_525 : decode cL_law 525 = .ok (.aload_n 3, 1) := dk_45 (dk_at dksL_law_12 3 rfl rfl)
theorem dL_law_526 : decode cL_law 526 = .ok (.iconst 0, 1) := dk_3 (dk_at dksL_law_12 4 rfl rfl)
theorem dL_law_527 : decode cL_law 527 = .ok (.laload, 1) := dk_47 (dk_at dksL_law_12 5 rfl rfl)
theorem dL_law_528 : decode cL_law 528 = .ok (.iload 7, 2) := dk_21 7 (dk_at dksL_law_12 6 rfl rfl)
theorem dL_law_530 : decode cL_law 530 = .ok (.i2l, 1) := dk_133 (dk_at dksL_law_12 8 rfl rfl)
theorem dL_law_531 : decode cL_law 531 = .ok (.lcmp, 1) := dk_148 (dk_at dksL_law_12 9 rfl rfl)
theorem dL_law_532 : decode cL_law 532 = .ok (.ifCond .eq 5, 3) := dk_153 0 5 (dk_at dksL_law_12 10 rfl rfl)
theorem dL_law_535 : decode cL_law 535 = .ok (.iconst 0, 1) := dk_3 (dk_at dksL_law_12 13 rfl rfl)
theorem dL_law_536 : decode cL_law 536 = .ok (.ireturn, 1) := dk_172 (dk_at dksL_law_12 14 rfl rfl)
theorem dL_law_537 : decode cL_law 537 = .ok (.goto 2786, 3) := dk_167 10 226 (dk_at dksL_law_12 15 rfl rfl)
theorem dL_law_540 : decode cL_law 540 = .ok (.aload_n 1, 1) := dk_43 (dk_at dksL_law_12 18 rfl rfl)
theorem dL_law_541 : decode cL_law 541 = .ok (.aload_n 0, 1) := dk_42 (dk_at dksL_law_12 19 rfl rfl)
theorem dL_law_542 : decode cL_law 542 = .ok (.iload 5, 2) := dk_21 5 (dk_at dksL_law_12 20 rfl rfl)
theorem dL_law_544 : decode cL_law 544 = .ok (.iconst 1, 1) := dk_4 (dk_at dksL_law_12 22 rfl rfl)
theorem dL_law_545 : decode cL_law 545 = .ok (.iadd, 1) := dk_96 (dk_at dksL_law_12 23 rfl rfl)
theorem dL_law_546 : decode cL_law 546 = .ok (.iaload, 1) := dk_46 (dk_at dksL_law_13 0 rfl rfl)
theorem dL_law_547 : decode cL_law 547 = .ok (.aload_n 0, 1) := dk_42 (dk_at dksL_law_13 1 rfl rfl)
theorem dL_law_548 : decode cL_law 548 = .ok (.iload 5, 2) := dk_21 5 (dk_at dksL_law_13 2 rfl rfl)
theorem dL_law_550 : decode cL_law 550 = .ok (.iconst 2, 1) := dk_5 (dk_at dksL_law_13 4 rfl rfl)
theorem dL_law_551 : decode cL_law 551 = .ok (.iadd, 1) := dk_96 (dk_at dksL_law_13 5 rfl rfl)
theorem dL_law_552 : decode cL_law 552 = .ok (.iaload, 1) := dk_46 (dk_at dksL_law_13 6 rfl rfl)
theorem dL_law_553 : decode cL_law 553 = .ok (.aload_n 3, 1) := dk_45 (dk_at dksL_law_13 7 rfl rfl)
theorem dL_law_554 : decode cL_law 554 = .ok (.invokestatic 195, 3) := dk_184 0 195 (dk_at dksL_law_13 8 rfl rfl)
theorem dL_law_557 : decode cL_law 557 = .ok (.istore 6, 2) := dk_54 6 (dk_at dksL_law_13 11 rfl rfl)
theorem dL_law_559 : decode cL_law 559 = .ok (.aload_n 2, 1) := dk_44 (dk_at dksL_law_13 13 rfl rfl)
theorem dL_law_560 : decode cL_law 560 = .ok (.aload_n 0, 1) := dk_42 (dk_at dksL_law_13 14 rfl rfl)
theorem dL_law_561 : decode cL_law 561 = .ok (.iload 5, 2) := dk_21 5 (dk_at dksL_law_13 15 rfl rfl)
theorem dL_law_563 : decode cL_law 563 = .ok (.iconst 1, 1) := dk_4 (dk_at dksL_law_13 17 rfl rfl)
theorem dL_law_564 : decode cL_law 564 = .ok (.iadd, 1) := dk_96 (dk_at dksL_law_13 18 rfl rfl)
theorem dL_law_565 : decode cL_law 565 = .ok (.iaload, 1) := dk_46 (dk_at dksL_law_13 19 rfl rfl)
theorem dL_law_566 : decode cL_law 566 = .ok (.aload_n 0, 1) := dk_42 (dk_at dksL_law_13 20 rfl rfl)
theorem dL_law_567 : decode cL_law 567 = .ok (.iload 5, 2) := dk_21 5 (dk_at dksL_law_13 21 rfl rfl)
theorem dL_law_569 : decode cL_law 569 = .ok (.iconst 2, 1) := dk_5 (dk_at dksL_law_13 23 rfl rfl)
theorem dL_law_570 : decode cL_law 570 = .ok (.iadd, 1) := dk_96 (dk_at dksL_law_14 0 rfl rfl)
theorem dL_law_571 : decode cL_law 571 = .ok (.iaload, 1) := dk_46 (dk_at dksL_law_14 1 rfl rfl)
theorem dL_law_572 : decode cL_law 572 = .ok (.invokevirtual 197, 3) := dk_182 0 197 (dk_at dksL_law_14 2 rfl rfl)
theorem dL_law_575 : decode cL_law 575 = .ok (.istore 7, 2) := dk_54 7 (dk_at dksL_law_14 5 rfl rfl)
theorem dL_law_577 : decode cL_law 577 = .ok (.aload_n 2, 1) := dk_44 (dk_at dksL_law_14 7 rfl rfl)
theorem dL_law_578 : decode cL_law 578 = .ok (.invokevirtual 185, 3) := dk_182 0 185 (dk_at dksL_law_14 8 rfl rfl)
theorem dL_law_581 : decode cL_law 581 = .ok (.iload 6, 2) := dk_21 6 (dk_at dksL_law_14 11 rfl rfl)
theorem dL_law_583 : decode cL_law 583 = .ok (.if_icmp .eq 5, 3) := dk_159 0 5 (dk_at dksL_law_14 13 rfl rfl)
theorem dL_law_586 : decode cL_law 586 = .ok (.iconst 0, 1) := dk_3 (dk_at dksL_law_14 16 rfl rfl)
theorem dL_law_587 : decode cL_law 587 = .ok (.ireturn, 1) := dk_172 (dk_at dksL_law_14 17 rfl rfl)
theorem dL_law_588 : decode cL_law 588 = .ok (.iload 6, 2) := dk_21 6 (dk_at dksL_law_14 18 rfl rfl)
theorem dL_law_590 : decode cL_law 590 = .ok (.ifCond .ne 15, 3) := dk_154 0 15 (dk_at dksL_law_14 20 rfl rfl)
theorem dL_law_593 : decode cL_law 593 = .ok (.aload_n 3, 1) := dk_45 (dk_at dksL_law_14 23 rfl rfl)
theorem dL_law_594 : decode cL_law 594 = .ok (.iconst 0, 1) := dk_3 (dk_at dksL_law_15 0 rfl rfl)
theorem dL_law_595 : decode cL_law 595 = .ok (.laload, 1) := dk_47 (dk_at dksL_law_15 1 rfl rfl)
theorem dL_law_596 : decode cL_law 596 = .ok (.iload 7, 2) := dk_21 7 (dk_at dksL_law_15 2 rfl rfl)
theorem dL_law_598 : decode cL_law 598 = .ok (.i2l, 1) := dk_133 (dk_at dksL_law_15 4 rfl rfl)
theorem dL_law_599 : decode cL_law 599 = .ok (.lcmp, 1) := dk_148 (dk_at dksL_law_15 5 rfl rfl)
theorem dL_law_600 : decode cL_law 600 = .ok (.ifCond .eq 5, 3) := dk_153 0 5 (dk_at dksL_law_15 6 rfl rfl)
theorem dL_law_603 : decode cL_law 603 = .ok (.iconst 0, 1) := dk_3 (dk_at dksL_law_15 9 rfl rfl)
theorem dL_law_604 : decode cL_law 604 = .ok (.ireturn, 1) := dk_172 (dk_at dksL_law_15 10 rfl rfl)
theorem dL_law_605 : decode cL_law 605 = .ok (.goto 2718, 3) := dk_167 10 158 (dk_at dksL_law_15 11 rfl rfl)
theorem dL_law_608 : decode cL_law 608 = .ok (.aload_n 1, 1) := dk_43 (dk_at dksL_law_15 14 rfl rfl)
theorem dL_law_609 : decode cL_law 609 = .ok (.aload_n 0, 1) := dk_42 (dk_at dksL_law_15 15 rfl rfl)
theorem dL_law_610 : decode cL_law 610 = .ok (.iload 5, 2) := dk_21 5 (dk_at dksL_law_15 16 rfl rfl)
theorem dL_law_612 : decode cL_law 612 = .ok (.iconst 1, 1) := dk_4 (dk_at dksL_law_15 18 rfl rfl)
theorem dL_law_613 : decode cL_law 613 = .ok (.iadd, 1) := dk_96 (dk_at dksL_law_15 19 rfl rfl)
theorem dL_law_614 : decode cL_law 614 = .ok (.iaload, 1) := dk_46 (dk_at dksL_law_15 20 rfl rfl)
theorem dL_law_615 : decode cL_law 615 = .ok (.aload_n 3, 1) := dk_45 (dk_at dksL_law_15 21 rfl rfl)
theorem dL_law_616 : decode cL_law 616 = .ok (.invokestatic 198, 3) := dk_184 0 198 (dk_at dksL_law_16 0 rfl rfl)
theorem dL_law_619 : decode cL_law 619 = .ok (.istore 6, 2) := dk_54 6 (dk_at dksL_law_16 3 rfl rfl)
theorem dL_law_621 : decode cL_law 621 = .ok (.aload_n 2, 1) := dk_44 (dk_at dksL_law_16 5 rfl rfl)
theorem dL_law_622 : decode cL_law 622 = .ok (.aload_n 0, 1) := dk_42 (dk_at dksL_law_16 6 rfl rfl)
theorem dL_law_623 : decode cL_law 623 = .ok (.iload 5, 2) := dk_21 5 (dk_at dksL_law_16 7 rfl rfl)
theorem dL_law_625 : decode cL_law 625 = .ok (.iconst 1, 1) := dk_4 (dk_at dksL_law_16 9 rfl rfl)
theorem dL_law_626 : decode cL_law 626 = .ok (.iadd, 1) := dk_96 (dk_at dksL_law_16 10 rfl rfl)
theorem dL_law_627 : decode cL_law 627 = .ok (.iaload, 1) := dk_46 (dk_at dksL_law_16 11 rfl rfl)
theorem dL_law_628 : decode cL_law 628 = .ok (.invokevirtual 201, 3) := dk_182 0 201 (dk_at dksL_law_16 12 rfl rfl)
theorem dL_law_631 : decode cL_law 631 = .ok (.istore 7, 2) := dk_54 7 (dk_at dksL_law_16 15 rfl rfl)
theorem dL_law_633 : decode cL_law 633 = .ok (.aload_n 2, 1) := dk_44 (dk_at dksL_law_16 17 rfl rfl)
theorem dL_law_634 : decode cL_law 634 = .ok (.invokevirtual 185, 3) := dk_182 0 185 (dk_at dksL_law_16 18 rfl rfl)
theorem dL_law_637 : decode cL_law 637 = .ok (.iload 6, 2) := dk_21 6 (dk_at dksL_law_16 21 rfl rfl)
theorem dL_law_639 : decode cL_law 639 = .ok (.if_icmp .eq 5, 3) := dk_159 0 5 (dk_at dksL_law_17 0 rfl rfl)
theorem dL_law_642 : decode cL_law 642 = .ok (.iconst 0, 1) := dk_3 (dk_at dksL_law_17 3 rfl rfl)
theorem dL_law_643 : decode cL_law 643 = .ok (.ireturn, 1) := dk_172 (dk_at dksL_law_17 4 rfl rfl)
theorem dL_law_644 : decode cL_law 644 = .ok (.iload 6, 2) := dk_21 6 (dk_at dksL_law_17 5 rfl rfl)
theorem dL_law_646 : decode cL_law 646 = .ok (.ifCond .ne 22, 3) := dk_154 0 22 (dk_at dksL_law_17 7 rfl rfl)
theorem dL_law_649 : decode cL_law 649 = .ok (.aload_n 3, 1) := dk_45 (dk_at dksL_law_17 10 rfl rfl)
theorem dL_law_650 : decode cL_law 650 = .ok (.iconst 0, 1) := dk_3 (dk_at dksL_law_17 11 rfl rfl)
theorem dL_law_651 : decode cL_law 651 = .ok (.laload, 1) := dk_47 (dk_at dksL_law_17 12 rfl rfl)
theorem dL_law_652 : decode cL_law 652 = .ok (.iload 7, 2) := dk_21 7 (dk_at dksL_law_17 13 rfl rfl)
theorem dL_law_654 : decode cL_law 654 = .ok (.ifCond .eq 7, 3) := dk_153 0 7 (dk_at dksL_law_17 15 rfl rfl)
theorem dL_law_657 : decode cL_law 657 = .ok (.lconst 1, 1) := dk_10 (dk_at dksL_law_17 18 rfl rfl)
theorem dL_law_658 : decode cL_law 658 = .ok (.goto 4, 3) := dk_167 0 4 (dk_at dksL_law_17 19 rfl rfl)
theorem dL_law_661 : decode cL_law 661 = .ok (.lconst 0, 1) := dk_9 (dk_at dksL_law_17 22 rfl rfl)
theorem dL_law_662 : decode cL_law 662 = .ok (.lcmp, 1) := dk_148 (dk_at dksL_law_17 23 rfl rfl)
theorem dL_law_663 : decode cL_law 663 = .ok (.ifCond .eq 5, 3) := dk_153 0 5 (dk_at dksL_law_18 0 rfl rfl)
theorem dL_law_666 : decode cL_law 666 = .ok (.iconst 0, 1) := dk_3 (dk_at dksL_law_18 3 rfl rfl)
theorem dL_law_667 : decode cL_law 667 = .ok (.ireturn, 1) := dk_172 (dk_at dksL_law_18 4 rfl rfl)
theorem dL_law_668 : decode cL_law 668 = .ok (.goto 2655, 3) := dk_167 10 95 (dk_at dksL_law_18 5 rfl rfl)
theorem dL_law_671 : decode cL_law 671 = .ok (.aload_n 1, 1) := dk_43 (dk_at dksL_law_18 8 rfl rfl)
theorem dL_law_672 : decode cL_law 672 = .ok (.aload_n 0, 1) := dk_42 (dk_at dksL_law_18 9 rfl rfl)
theorem dL_law_673 : decode cL_law 673 = .ok (.iload 5, 2) := dk_21 5 (dk_at dksL_law_18 10 rfl rfl)
theorem dL_law_675 : decode cL_law 675 = .ok (.iconst 1, 1) := dk_4 (dk_at dksL_law_18 12 rfl rfl)
theorem dL_law_676 : decode cL_law 676 = .ok (.iadd, 1) := dk_96 (dk_at dksL_law_18 13 rfl rfl)
theorem dL_law_677 : decode cL_law 677 = .ok (.iaload, 1) := dk_46 (dk_at dksL_law_18 14 rfl rfl)
theorem dL_law_678 : decode cL_law 678 = .ok (.aload_n 3, 1) := dk_45 (dk_at dksL_law_18 15 rfl rfl)
theorem dL_law_679 : decode cL_law 679 = .ok (.invokestatic 202, 3) := dk_184 0 202 (dk_at dksL_law_18 16 rfl rfl)
theorem dL_law_682 : decode cL_law 682 = .ok (.istore 6, 2) := dk_54 6 (dk_at dksL_law_18 19 rfl rfl)
theorem dL_law_684 : decode cL_law 684 = .ok (.aload_n 2, 1) := dk_44 (dk_at dksL_law_18 21 rfl rfl)
theorem dL_law_685 : decode cL_law 685 = .ok (.aload_n 0, 1) := dk_42 (dk_at dksL_law_18 22 rfl rfl)
theorem dL_law_686 : decode cL_law 686 = .ok (.iload 5, 2) := dk_21 5 (dk_at dksL_law_19 0 rfl rfl)
theorem dL_law_688 : decode cL_law 688 = .ok (.iconst 1, 1) := dk_4 (dk_at dksL_law_19 2 rfl rfl)
theorem dL_law_689 : decode cL_law 689 = .ok (.iadd, 1) := dk_96 (dk_at dksL_law_19 3 rfl rfl)
theorem dL_law_690 : decode cL_law 690 = .ok (.iaload, 1) := dk_46 (dk_at dksL_law_19 4 rfl rfl)
theorem dL_law_691 : decode cL_law 691 = .ok (.invokevirtual 204, 3) := dk_182 0 204 (dk_at dksL_law_19 5 rfl rfl)
theorem dL_law_694 : decode cL_law 694 = .ok (.istore 7, 2) := dk_54 7 (dk_at dksL_law_19 8 rfl rfl)
theorem dL_law_696 : decode cL_law 696 = .ok (.aload_n 2, 1) := dk_44 (dk_at dksL_law_19 10 rfl rfl)
theorem dL_law_697 : decode cL_law 697 = .ok (.invokevirtual 185, 3) := dk_182 0 185 (dk_at dksL_law_19 11 rfl rfl)
theorem dL_law_700 : decode cL_law 700 = .ok (.iload 6, 2) := dk_21 6 (dk_at dksL_law_19 14 rfl rfl)
theorem dL_law_702 : decode cL_law 702 = .ok (.if_icmp .eq 5, 3) := dk_159 0 5 (dk_at dksL_law_19 16 rfl rfl)
theorem dL_law_705 : decode cL_law 705 = .ok (.iconst 0, 1) := dk_3 (dk_at dksL_law_19 19 rfl rfl)
theorem dL_law_706 : decode cL_law 706 = .ok (.ireturn, 1) := dk_172 (dk_at dksL_law_19 20 rfl rfl)
theorem dL_law_707 : decode cL_law 707 = .ok (.iload 6, 2) := dk_21 6 (dk_at dksL_law_19 21 rfl rfl)
theorem dL_law_709 : decode cL_law 709 = .ok (.ifCond .ne 15, 3) := dk_154 0 15 (dk_at dksL_law_20 0 rfl rfl)
theorem dL_law_712 : decode cL_law 712 = .ok (.aload_n 3, 1) := dk_45 (dk_at dksL_law_20 3 rfl rfl)
theorem dL_law_713 : decode cL_law 713 = .ok (.iconst 0, 1) := dk_3 (dk_at dksL_law_20 4 rfl rfl)
theorem dL_law_714 : decode cL_law 714 = .ok (.laload, 1) := dk_47 (dk_at dksL_law_20 5 rfl rfl)
theorem dL_law_715 : decode cL_law 715 = .ok (.iload 7, 2) := dk_21 7 (dk_at dksL_law_20 6 rfl rfl)
theorem dL_law_717 : decode cL_law 717 = .ok (.i2l, 1) := dk_133 (dk_at dksL_law_20 8 rfl rfl)
theorem dL_law_718 : decode cL_law 718 = .ok (.lcmp, 1) := dk_148 (dk_at dksL_law_20 9 rfl rfl)
theorem dL_law_719 : decode cL_law 719 = .ok (.ifCond .eq 5, 3) := dk_153 0 5 (dk_at dksL_law_20 10 rfl rfl)
theorem dL_law_722 : decode cL_law 722 = .ok (.iconst 0, 1) := dk_3 (dk_at dksL_law_20 13 rfl rfl)
theorem dL_law_723 : decode cL_law 723 = .ok (.ireturn, 1) := dk_172 (dk_at dksL_law_20 14 rfl rfl)
theorem dL_law_724 : decode cL_law 724 = .ok (.goto 2599, 3) := dk_167 10 39 (dk_at dksL_law_20 15 rfl rfl)
theorem dL_law_727 : decode cL_law 727 = .ok (.aload_n 1, 1) := dk_43 (dk_at dksL_law_20 18 rfl rfl)
theorem dL_law_728 : decode cL_law 728 = .ok (.invokevirtual 205, 3) := dk_182 0 205 (dk_at dksL_law_20 19 rfl rfl)
theorem dL_law_731 : decode cL_law 731 = .ok (.aload_n 2, 1) := dk_44 (dk_at dksL_law_20 22 rfl rfl)
theorem dL_law_732 : decode cL_law 732 = .ok (.invokevirtual 208, 3) := dk_182 0 208 (dk_at dksL_law_21 0 rfl rfl)
theorem dL_law_735 : decode cL_law 735 = .ok (.if_icmp .eq 2588, 3) := dk_159 10 28 (dk_at dksL_law_21 3 rfl rfl)
theorem dL_law_738 : decode cL_law 738 = .ok (.iconst 0, 1) := dk_3 (dk_at dksL_law_21 6 rfl rfl)
theorem dL_law_739 : decode cL_law 739 = .ok (.ireturn, 1) := dk_172 (dk_at dksL_law_21 7 rfl rfl)
theorem dL_law_740 : decode cL_law 740 = .ok (.aload_n 1, 1) := dk_43 (dk_at dksL_law_21 8 rfl rfl)
theorem dL_law_741 : decode cL_law 741 = .ok (.aload_n 0, 1) := dk_42 (dk_at dksL_law_21 9 rfl rfl)
theorem dL_law_742 : decode cL_law 742 = .ok (.iload 5, 2) := dk_21 5 (dk_at dksL_law_21 10 rfl rfl)
theorem dL_law_744 : decode cL_law 744 = .ok (.iconst 1, 1) := dk_4 (dk_at dksL_law_21 12 rfl rfl)
theorem dL_law_745 : decode cL_law 745 = .ok (.iadd, 1) := dk_96 (dk_at dksL_law_21 13 rfl rfl)
theorem dL_law_746 : decode cL_law 746 = .ok (.iaload, 1) := dk_46 (dk_at dksL_law_21 14 rfl rfl)
theorem dL_law_747 : decode cL_law 747 = .ok (.aload_n 3, 1) := dk_45 (dk_at dksL_law_21 15 rfl rfl)
theorem dL_law_748 : decode cL_law 748 = .ok (.invokestatic 209, 3) := dk_184 0 209 (dk_at dksL_law_21 16 rfl rfl)
theorem dL_law_751 : decode cL_law 751 = .ok (.istore 6, 2) := dk_54 6 (dk_at dksL_law_21 19 rfl rfl)
theorem dL_law_753 : decode cL_law 753 = .ok (.aload_n 2, 1) := dk_44 (dk_at dksL_law_21 21 rfl rfl)
theorem dL_law_754 : decode cL_law 754 = .ok (.aload_n 0, 1) := dk_42 (dk_at dksL_law_21 22 rfl rfl)
theorem dL_law_755 : decode cL_law 755 = .ok (.iload 5, 2) := dk_21 5 (dk_at dksL_law_22 0 rfl rfl)
theorem dL_law_757 : decode cL_law 757 = .ok (.iconst 1, 1) := dk_4 (dk_at dksL_law_22 2 rfl rfl)
theorem dL_law_758 : decode cL_law 758 = .ok (.iadd, 1) := dk_96 (dk_at dksL_law_22 3 rfl rfl)
theorem dL_law_759 : decode cL_law 759 = .ok (.iaload, 1) := dk_46 (dk_at dksL_law_22 4 rfl rfl)
theorem dL_law_760 : decode cL_law 760 = .ok (.invokevirtual 211, 3) := dk_182 0 211 (dk_at dksL_law_22 5 rfl rfl)
theorem dL_law_763 : decode cL_law 763 = .ok (.istore 7, 2) := dk_54 7 (dk_at dksL_law_22 8 rfl rfl)
theorem dL_law_765 : decode cL_law 765 = .ok (.aload_n 2, 1) := dk_44 (dk_at dksL_law_22 10 rfl rfl)
theorem dL_law_766 : decode cL_law 766 = .ok (.invokevirtual 185, 3) := dk_182 0 185 (dk_at dksL_law_22 11 rfl rfl)
theorem dL_law_769 : decode cL_law 769 = .ok (.iload 6, 2) := dk_21 6 (dk_at dksL_law_22 14 rfl rfl)
theorem dL_law_771 : decode cL_law 771 = .ok (.if_icmp .eq 5, 3) := dk_159 0 5 (dk_at dksL_law_22 16 rfl rfl)
theorem dL_law_774 : decode cL_law 774 = .ok (.iconst 0, 1) := dk_3 (dk_at dksL_law_22 19 rfl rfl)
theorem dL_law_775 : decode cL_law 775 = .ok (.ireturn, 1) := dk_172 (dk_at dksL_law_22 20 rfl rfl)
theorem dL_law_776 : decode cL_law 776 = .ok (.iload 6, 2) := dk_21 6 (dk_at dksL_law_22 21 rfl rfl)
theorem dL_law_778 : decode cL_law 778 = .ok (.ifCond .ne 15, 3) := dk_154 0 15 (dk_at dksL_law_23 0 rfl rfl)
theorem dL_law_781 : decode cL_law 781 = .ok (.aload_n 3, 1) := dk_45 (dk_at dksL_law_23 3 rfl rfl)
theorem dL_law_782 : decode cL_law 782 = .ok (.iconst 0, 1) := dk_3 (dk_at dksL_law_23 4 rfl rfl)
theorem dL_law_783 : decode cL_law 783 = .ok (.laload, 1) := dk_47 (dk_at dksL_law_23 5 rfl rfl)
theorem dL_law_784 : decode cL_law 784 = .ok (.iload 7, 2) := dk_21 7 (dk_at dksL_law_23 6 rfl rfl)
theorem dL_law_786 : decode cL_law 786 = .ok (.i2l, 1) := dk_133 (dk_at dksL_law_23 8 rfl rfl)
theorem dL_law_787 : decode cL_law 787 = .ok (.lcmp, 1) := dk_148 (dk_at dksL_law_23 9 rfl rfl)
theorem dL_law_788 : decode cL_law 788 = .ok (.ifCond .eq 5, 3) := dk_153 0 5 (dk_at dksL_law_23 10 rfl rfl)
theorem dL_law_791 : decode cL_law 791 = .ok (.iconst 0, 1) := dk_3 (dk_at dksL_law_23 13 rfl rfl)
theorem dL_law_792 : decode cL_law 792 = .ok (.ireturn, 1) := dk_172 (dk_at dksL_law_23 14 rfl rfl)
theorem dL_law_793 : decode cL_law 793 = .ok (.goto 2530, 3) := dk_167 9 226 (dk_at dksL_law_23 15 rfl rfl)
theorem dL_law_796 : decode cL_law 796 = .ok (.aload_n 1, 1) := dk_43 (dk_at dksL_law_23 18 rfl rfl)
theorem dL_law_797 : decode cL_law 797 = .ok (.aload_n 0, 1) := dk_42 (dk_at dksL_law_23 19 rfl rfl)
theorem dL_law_798 : decode cL_law 798 = .ok (.iload 5, 2) := dk_21 5 (dk_at dksL_law_23 20 rfl rfl)
theorem dL_law_800 : decode cL_law 800 = .ok (.iconst 1, 1) := dk_4 (dk_at dksL_law_23 22 rfl rfl)
theorem dL_law_801 : decode cL_law 801 = .ok (.iadd, 1) := dk_96 (dk_at dksL_law_23 23 rfl rfl)
theorem dL_law_802 : decode cL_law 802 = .ok (.iaload, 1) := dk_46 (dk_at dksL_law_24 0 rfl rfl)
theorem dL_law_803 : decode cL_law 803 = .ok (.aload_n 3, 1) := dk_45 (dk_at dksL_law_24 1 rfl rfl)
theorem dL_law_804 : decode cL_law 804 = .ok (.invokestatic 212, 3) := dk_184 0 212 (dk_at dksL_law_24 2 rfl rfl)
theorem dL_law_807 : decode cL_law 807 = .ok (.istore 6, 2) := dk_54 6 (dk_at dksL_law_24 5 rfl rfl)
theorem dL_law_809 : decode cL_law 809 = .ok (.aload_n 2, 1) := dk_44 (dk_at dksL_law_24 7 rfl rfl)
theorem dL_law_810 : decode cL_law 810 = .ok (.aload_n 0, 1) := dk_42 (dk_at dksL_law_24 8 rfl rfl)
theorem dL_law_811 : decode cL_law 811 = .ok (.iload 5, 2) := dk_21 5 (dk_at dksL_law_24 9 rfl rfl)
theorem dL_law_813 : decode cL_law 813 = .ok (.iconst 1, 1) := dk_4 (dk_at dksL_law_24 11 rfl rfl)
theorem dL_law_814 : decode cL_law 814 = .ok (.iadd, 1) := dk_96 (dk_at dksL_law_24 12 rfl rfl)
theorem dL_law_815 : decode cL_law 815 = .ok (.iaload, 1) := dk_46 (dk_at dksL_law_24 13 rfl rfl)
theorem dL_law_816 : decode cL_law 816 = .ok (.invokevirtual 214, 3) := dk_182 0 214 (dk_at dksL_law_24 14 rfl rfl)
theorem dL_law_819 : decode cL_law 819 = .ok (.istore 7, 2) := dk_54 7 (dk_at dksL_law_24 17 rfl rfl)
theorem dL_law_821 : decode cL_law 821 = .ok (.aload_n 2, 1) := dk_44 (dk_at dksL_law_24 19 rfl rfl)
theorem dL_law_822 : decode cL_law 822 = .ok (.invokevirtual 185, 3) := dk_182 0 185 (dk_at dksL_law_24 20 rfl rfl)
theorem dL_law_825 : decode cL_law 825 = .ok (.iload 6, 2) := dk_21 6 (dk_at dksL_law_25 0 rfl rfl)
theorem dL_law_827 : decode cL_law 827 = .ok (.if_icmp .eq 5, 3) := dk_159 0 5 (dk_at dksL_law_25 2 rfl rfl)
theorem dL_law_830 : decode cL_law 830 = .ok (.iconst 0, 1) := dk_3 (dk_at dksL_law_25 5 rfl rfl)
theorem dL_law_831 : decode cL_law 831 = .ok (.ireturn, 1) := dk_172 (dk_at dksL_law_25 6 rfl rfl)
theorem dL_law_832 : decode cL_law 832 = .ok (.iload 6, 2) := dk_21 6 (dk_at dksL_law_25 7 rfl rfl)
theorem dL_law_834 : decode cL_law 834 = .ok (.ifCond .ne 15, 3) := dk_154 0 15 (dk_at dksL_law_25 9 rfl rfl)
theorem dL_law_837 : decode cL_law 837 = .ok (.aload_n 3, 1) := dk_45 (dk_at dksL_law_25 12 rfl rfl)
theorem dL_law_838 : decode cL_law 838 = .ok (.iconst 0, 1) := dk_3 (dk_at dksL_law_25 13 rfl rfl)
theorem dL_law_839 : decode cL_law 839 = .ok (.laload, 1) := dk_47 (dk_at dksL_law_25 14 rfl rfl)
theorem dL_law_840 : decode cL_law 840 = .ok (.iload 7, 2) := dk_21 7 (dk_at dksL_law_25 15 rfl rfl)
theorem dL_law_842 : decode cL_law 842 = .ok (.i2l, 1) := dk_133 (dk_at dksL_law_25 17 rfl rfl)
theorem dL_law_843 : decode cL_law 843 = .ok (.lcmp, 1) := dk_148 (dk_at dksL_law_25 18 rfl rfl)
theorem dL_law_844 : decode cL_law 844 = .ok (.ifCond .eq 5, 3) := dk_153 0 5 (dk_at dksL_law_25 19 rfl rfl)
theorem dL_law_847 : decode cL_law 847 = .ok (.iconst 0, 1) := dk_3 (dk_at dksL_law_25 22 rfl rfl)
theorem dL_law_848 : decode cL_law 848 = .ok (.ireturn, 1) := dk_172 (dk_at dksL_law_25 23 rfl rfl)
theorem dL_law_849 : decode cL_law 849 = .ok (.goto 2474, 3) := dk_167 9 170 (dk_at dksL_law_26 0 rfl rfl)
theorem dL_law_852 : decode cL_law 852 = .ok (.aload_n 1, 1) := dk_43 (dk_at dksL_law_26 3 rfl rfl)
theorem dL_law_853 : decode cL_law 853 = .ok (.aload_n 0, 1) := dk_42 (dk_at dksL_law_26 4 rfl rfl)
theorem dL_law_854 : decode cL_law 854 = .ok (.iload 5, 2) := dk_21 5 (dk_at dksL_law_26 5 rfl rfl)
theorem dL_law_856 : decode cL_law 856 = .ok (.iconst 1, 1) := dk_4 (dk_at dksL_law_26 7 rfl rfl)
theorem dL_law_857 : decode cL_law 857 = .ok (.iadd, 1) := dk_96 (dk_at dksL_law_26 8 rfl rfl)
theorem dL_law_858 : decode cL_law 858 = .ok (.iaload, 1) := dk_46 (dk_at dksL_law_26 9 rfl rfl)
theorem dL_law_859 : decode cL_law 859 = .ok (.aload_n 3, 1) := dk_45 (dk_at dksL_law_26 10 rfl rfl)
theorem dL_law_860 : decode cL_law 860 = .ok (.invokestatic 215, 3) := dk_184 0 215 (dk_at dksL_law_26 11 rfl rfl)
theorem dL_law_863 : decode cL_law 863 = .ok (.istore 6, 2) := dk_54 6 (dk_at dksL_law_26 14 rfl rfl)
theorem dL_law_865 : decode cL_law 865 = .ok (.aload_n 2, 1) := dk_44 (dk_at dksL_law_26 16 rfl rfl)
theorem dL_law_866 : decode cL_law 866 = .ok (.aload_n 0, 1) := dk_42 (dk_at dksL_law_26 17 rfl rfl)
theorem dL_law_867 : decode cL_law 867 = .ok (.iload 5, 2) := dk_21 5 (dk_at dksL_law_26 18 rfl rfl)
theorem dL_law_869 : decode cL_law 869 = .ok (.iconst 1, 1) := dk_4 (dk_at dksL_law_26 20 rfl rfl)
theorem dL_law_870 : decode cL_law 870 = .ok (.iadd, 1) := dk_96 (dk_at dksL_law_26 21 rfl rfl)
theorem dL_law_871 : decode cL_law 871 = .ok (.iaload, 1) := dk_46 (dk_at dksL_law_26 22 rfl rfl)
theorem dL_law_872 : decode cL_law 872 = .ok (.invokevirtual 217, 3) := dk_182 0 217 (dk_at dksL_law_27 0 rfl rfl)
theorem dL_law_875 : decode cL_law 875 = .ok (.istore 7, 2) := dk_54 7 (dk_at dksL_law_27 3 rfl rfl)
theorem dL_law_877 : decode cL_law 877 = .ok (.aload_n 2, 1) := dk_44 (dk_at dksL_law_27 5 rfl rfl)
theorem dL_law_878 : decode cL_law 878 = .ok (.invokevirtual 185, 3) := dk_182 0 185 (dk_at dksL_law_27 6 rfl rfl)
theorem dL_law_881 : decode cL_law 881 = .ok (.iload 6, 2) := dk_21 6 (dk_at dksL_law_27 9 rfl rfl)
theorem dL_law_883 : decode cL_law 883 = .ok (.if_icmp .eq 5, 3) := dk_159 0 5 (dk_at dksL_law_27 11 rfl rfl)
theorem dL_law_886 : decode cL_law 886 = .ok (.iconst 0, 1) := dk_3 (dk_at dksL_law_27 14 rfl rfl)
theorem dL_law_887 : decode cL_law 887 = .ok (.ireturn, 1) := dk_172 (dk_at dksL_law_27 15 rfl rfl)
theorem dL_law_888 : decode cL_law 888 = .ok (.iload 6, 2) := dk_21 6 (dk_at dksL_law_27 16 rfl rfl)
theorem dL_law_890 : decode cL_law 890 = .ok (.ifCond .ne 15, 3) := dk_154 0 15 (dk_at dksL_law_27 18 rfl rfl)
theorem dL_law_893 : decode cL_law 893 = .ok (.aload_n 3, 1) := dk_45 (dk_at dksL_law_27 21 rfl rfl)
theorem dL_law_894 : decode cL_law 894 = .ok (.iconst 0, 1) := dk_3 (dk_at dksL_law_27 22 rfl rfl)
theorem dL_law_895 : decode cL_law 895 = .ok (.laload, 1) := dk_47 (dk_at dksL_law_27 23 rfl rfl)
theorem dL_law_896 : decode cL_law 896 = .ok (.iload 7, 2) := dk_21 7 (dk_at dksL_law_28 0 rfl rfl)
theorem dL_law_898 : decode cL_law 898 = .ok (.i2l, 1) := dk_133 (dk_at dksL_law_28 2 rfl rfl)
theorem dL_law_899 : decode cL_law 899 = .ok (.lcmp, 1) := dk_148 (dk_at dksL_law_28 3 rfl rfl)
theorem dL_law_900 : decode cL_law 900 = .ok (.ifCond .eq 5, 3) := dk_153 0 5 (dk_at dksL_law_28 4 rfl rfl)
theorem dL_law_903 : decode cL_law 903 = .ok (.iconst 0, 1) := dk_3 (dk_at dksL_law_28 7 rfl rfl)
theorem dL_law_904 : decode cL_law 904 = .ok (.ireturn, 1) := dk_172 (dk_at dksL_law_28 8 rfl rfl)
theorem dL_law_905 : decode cL_law 905 = .ok (.goto 2418, 3) := dk_167 9 114 (dk_at dksL_law_28 9 rfl rfl)
theorem dL_law_908 : decode cL_law 908 = .ok (.aload_n 1, 1) := dk_43 (dk_at dksL_law_28 12 rfl rfl)
theorem dL_law_909 : decode cL_law 909 = .ok (.aload_n 0, 1) := dk_42 (dk_at dksL_law_28 13 rfl rfl)
theorem dL_law_910 : decode cL_law 910 = .ok (.iload 5, 2) := dk_21 5 (dk_at dksL_law_28 14 rfl rfl)
theorem dL_law_912 : decode cL_law 912 = .ok (.iconst 1, 1) := dk_4 (dk_at dksL_law_28 16 rfl rfl)
theorem dL_law_913 : decode cL_law 913 = .ok (.iadd, 1) := dk_96 (dk_at dksL_law_28 17 rfl rfl)
theorem dL_law_914 : decode cL_law 914 = .ok (.iaload, 1) := dk_46 (dk_at dksL_law_28 18 rfl rfl)
theorem dL_law_915 : decode cL_law 915 = .ok (.aload_n 3, 1) := dk_45 (dk_at dksL_law_28 19 rfl rfl)
theorem dL_law_916 : decode cL_law 916 = .ok (.invokestatic 218, 3) := dk_184 0 218 (dk_at dksL_law_28 20 rfl rfl)
theorem dL_law_919 : decode cL_law 919 = .ok (.istore 6, 2) := dk_54 6 (dk_at dksL_law_29 0 rfl rfl)
theorem dL_law_921 : decode cL_law 921 = .ok (.aload_n 2, 1) := dk_44 (dk_at dksL_law_29 2 rfl rfl)
theorem dL_law_922 : decode cL_law 922 = .ok (.aload_n 0, 1) := dk_42 (dk_at dksL_law_29 3 rfl rfl)
theorem dL_law_923 : decode cL_law 923 = .ok (.iload 5, 2) := dk_21 5 (dk_at dksL_law_29 4 rfl rfl)
theorem dL_law_925 : decode cL_law 925 = .ok (.iconst 1, 1) := dk_4 (dk_at dksL_law_29 6 rfl rfl)
theorem dL_law_926 : decode cL_law 926 = .ok (.iadd, 1) := dk_96 (dk_at dksL_law_29 7 rfl rfl)
theorem dL_law_927 : decode cL_law 927 = .ok (.iaload, 1) := dk_46 (dk_at dksL_law_29 8 rfl rfl)
theorem dL_law_928 : decode cL_law 928 = .ok (.invokevirtual 220, 3) := dk_182 0 220 (dk_at dksL_law_29 9 rfl rfl)
theorem dL_law_931 : decode cL_law 931 = .ok (.istore 7, 2) := dk_54 7 (dk_at dksL_law_29 12 rfl rfl)
theorem dL_law_933 : decode cL_law 933 = .ok (.aload_n 2, 1) := dk_44 (dk_at dksL_law_29 14 rfl rfl)
theorem dL_law_934 : decode cL_law 934 = .ok (.invokevirtual 185, 3) := dk_182 0 185 (dk_at dksL_law_29 15 rfl rfl)
theorem dL_law_937 : decode cL_law 937 = .ok (.iload 6, 2) := dk_21 6 (dk_at dksL_law_29 18 rfl rfl)
theorem dL_law_939 : decode cL_law 939 = .ok (.if_icmp .eq 5, 3) := dk_159 0 5 (dk_at dksL_law_29 20 rfl rfl)
theorem dL_law_942 : decode cL_law 942 = .ok (.iconst 0, 1) := dk_3 (dk_at dksL_law_29 23 rfl rfl)
theorem dL_law_943 : decode cL_law 943 = .ok (.ireturn, 1) := dk_172 (dk_at dksL_law_30 0 rfl rfl)
theorem dL_law_944 : decode cL_law 944 = .ok (.iload 6, 2) := dk_21 6 (dk_at dksL_law_30 1 rfl rfl)
theorem dL_law_946 : decode cL_law 946 = .ok (.ifCond .ne 15, 3) := dk_154 0 15 (dk_at dksL_law_30 3 rfl rfl)
theorem dL_law_949 : decode cL_law 949 = .ok (.aload_n 3, 1) := dk_45 (dk_at dksL_law_30 6 rfl rfl)
theorem dL_law_950 : decode cL_law 950 = .ok (.iconst 0, 1) := dk_3 (dk_at dksL_law_30 7 rfl rfl)
theorem dL_law_951 : decode cL_law 951 = .ok (.laload, 1) := dk_47 (dk_at dksL_law_30 8 rfl rfl)
theorem dL_law_952 : decode cL_law 952 = .ok (.iload 7, 2) := dk_21 7 (dk_at dksL_law_30 9 rfl rfl)
theorem dL_law_954 : decode cL_law 954 = .ok (.i2l, 1) := dk_133 (dk_at dksL_law_30 11 rfl rfl)
theorem dL_law_955 : decode cL_law 955 = .ok (.lcmp, 1) := dk_148 (dk_at dksL_law_30 12 rfl rfl)
theorem dL_law_956 : decode cL_law 956 = .ok (.ifCond .eq 5, 3) := dk_153 0 5 (dk_at dksL_law_30 13 rfl rfl)
theorem dL_law_959 : decode cL_law 959 = .ok (.iconst 0, 1) := dk_3 (dk_at dksL_law_30 16 rfl rfl)
theorem dL_law_960 : decode cL_law 960 = .ok (.ireturn, 1) := dk_172 (dk_at dksL_law_30 17 rfl rfl)
theorem dL_law_961 : decode cL_law 961 = .ok (.goto 2362, 3) := dk_167 9 58 (dk_at dksL_law_30 18 rfl rfl)
theorem dL_law_964 : decode cL_law 964 = .ok (.aload_n 1, 1) := dk_43 (dk_at dksL_law_30 21 rfl rfl)
theorem dL_law_965 : decode cL_law 965 = .ok (.invokevirtual 221, 3) := dk_182 0 221 (dk_at dksL_law_31 0 rfl rfl)
theorem dL_law_968 : decode cL_law 968 = .ok (.aload_n 2, 1) := dk_44 (dk_at dksL_law_31 3 rfl rfl)
theorem dL_law_969 : decode cL_law 969 = .ok (.invokevirtual 224, 3) := dk_182 0 224 (dk_at dksL_law_31 4 rfl rfl)
theorem dL_law_972 : decode cL_law 972 = .ok (.if_icmp .eq 2351, 3) := dk_159 9 47 (dk_at dksL_law_31 7 rfl rfl)
theorem dL_law_975 : decode cL_law 975 = .ok (.iconst 0, 1) := dk_3 (dk_at dksL_law_31 10 rfl rfl)
theorem dL_law_976 : decode cL_law 976 = .ok (.ireturn, 1) := dk_172 (dk_at dksL_law_31 11 rfl rfl)
theorem dL_law_977 : decode cL_law 977 = .ok (.aload_n 1, 1) := dk_43 (dk_at dksL_law_31 12 rfl rfl)
theorem dL_law_978 : decode cL_law 978 = .ok (.aload_n 0, 1) := dk_42 (dk_at dksL_law_31 13 rfl rfl)
theorem dL_law_979 : decode cL_law 979 = .ok (.iload 5, 2) := dk_21 5 (dk_at dksL_law_31 14 rfl rfl)
theorem dL_law_981 : decode cL_law 981 = .ok (.iconst 1, 1) := dk_4 (dk_at dksL_law_31 16 rfl rfl)
theorem dL_law_982 : decode cL_law 982 = .ok (.iadd, 1) := dk_96 (dk_at dksL_law_31 17 rfl rfl)
theorem dL_law_983 : decode cL_law 983 = .ok (.iaload, 1) := dk_46 (dk_at dksL_law_31 18 rfl rfl)
theorem dL_law_984 : decode cL_law 984 = .ok (.aload_n 3, 1) := dk_45 (dk_at dksL_law_31 19 rfl rfl)
theorem dL_law_985 : decode cL_law 985 = .ok (.invokestatic 225, 3) := dk_184 0 225 (dk_at dksL_law_31 20 rfl rfl)
theorem dL_law_988 : decode cL_law 988 = .ok (.istore 6, 2) := dk_54 6 (dk_at dksL_law_32 0 rfl rfl)
theorem dL_law_990 : decode cL_law 990 = .ok (.aload_n 2, 1) := dk_44 (dk_at dksL_law_32 2 rfl rfl)
theorem dL_law_991 : decode cL_law 991 = .ok (.aload_n 0, 1) := dk_42 (dk_at dksL_law_32 3 rfl rfl)
theorem dL_law_992 : decode cL_law 992 = .ok (.iload 5, 2) := dk_21 5 (dk_at dksL_law_32 4 rfl rfl)
theorem dL_law_994 : decode cL_law 994 = .ok (.iconst 1, 1) := dk_4 (dk_at dksL_law_32 6 rfl rfl)
theorem dL_law_995 : decode cL_law 995 = .ok (.iadd, 1) := dk_96 (dk_at dksL_law_32 7 rfl rfl)
theorem dL_law_996 : decode cL_law 996 = .ok (.iaload, 1) := dk_46 (dk_at dksL_law_32 8 rfl rfl)
theorem dL_law_997 : decode cL_law 997 = .ok (.invokevirtual 227, 3) := dk_182 0 227 (dk_at dksL_law_32 9 rfl rfl)
theorem dL_law_1000 : decode cL_law 1000 = .ok (.istore 7, 2) := dk_54 7 (dk_at dksL_law_32 12 rfl rfl)
theorem dL_law_1002 : decode cL_law 1002 = .ok (.aload_n 2, 1) := dk_44 (dk_at dksL_law_32 14 rfl rfl)
theorem dL_law_1003 : decode cL_law 1003 = .ok (.invokevirtual 185, 3) := dk_182 0 185 (dk_at dksL_law_32 15 rfl rfl)
theorem dL_law_1006 : decode cL_law 1006 = .ok (.iload 6, 2) := dk_21 6 (dk_at dksL_law_32 18 rfl rfl)
theorem dL_law_1008 : decode cL_law 1008 = .ok (.if_icmp .eq 5, 3) := dk_159 0 5 (dk_at dksL_law_32 20 rfl rfl)
theorem dL_law_1011 : decode cL_law 1011 = .ok (.iconst 0, 1) := dk_3 (dk_at dksL_law_32 23 rfl rfl)
theorem dL_law_1012 : decode cL_law 1012 = .ok (.ireturn, 1) := dk_172 (dk_at dksL_law_33 0 rfl rfl)
theorem dL_law_1013 : decode cL_law 1013 = .ok (.iload 6, 2) := dk_21 6 (dk_at dksL_law_33 1 rfl rfl)
theorem dL_law_1015 : decode cL_law 1015 = .ok (.ifCond .ne 15, 3) := dk_154 0 15 (dk_at dksL_law_33 3 rfl rfl)
theorem dL_law_1018 : decode cL_law 1018 = .ok (.aload_n 3, 1) := dk_45 (dk_at dksL_law_33 6 rfl rfl)
theorem dL_law_1019 : decode cL_law 1019 = .ok (.iconst 0, 1) := dk_3 (dk_at dksL_law_33 7 rfl rfl)
theorem dL_law_1020 : decode cL_law 1020 = .ok (.laload, 1) := dk_47 (dk_at dksL_law_33 8 rfl rfl)
theorem dL_law_1021 : decode cL_law 1021 = .ok (.iload 7, 2) := dk_21 7 (dk_at dksL_law_33 9 rfl rfl)
theorem dL_law_1023 : decode cL_law 1023 = .ok (.i2l, 1) := dk_133 (dk_at dksL_law_33 11 rfl rfl)
theorem dL_law_1024 : decode cL_law 1024 = .ok (.lcmp, 1) := dk_148 (dk_at dksL_law_33 12 rfl rfl)
theorem dL_law_1025 : decode cL_law 1025 = .ok (.ifCond .eq 5, 3) := dk_153 0 5 (dk_at dksL_law_33 13 rfl rfl)
theorem dL_law_1028 : decode cL_law 1028 = .ok (.iconst 0, 1) := dk_3 (dk_at dksL_law_33 16 rfl rfl)
theorem dL_law_1029 : decode cL_law 1029 = .ok (.ireturn, 1) := dk_172 (dk_at dksL_law_33 17 rfl rfl)
theorem dL_law_1030 : decode cL_law 1030 = .ok (.goto 2293, 3) := dk_167 8 245 (dk_at dksL_law_33 18 rfl rfl)
theorem dL_law_1033 : decode cL_law 1033 = .ok (.aload_n 1, 1) := dk_43 (dk_at dksL_law_33 21 rfl rfl)
theorem dL_law_1034 : decode cL_law 1034 = .ok (.aload_n 0, 1) := dk_42 (dk_at dksL_law_33 22 rfl rfl)
theorem dL_law_1035 : decode cL_law 1035 = .ok (.iload 5, 2) := dk_21 5 (dk_at dksL_law_34 0 rfl rfl)
theorem dL_law_1037 : decode cL_law 1037 = .ok (.iconst 1, 1) := dk_4 (dk_at dksL_law_34 2 rfl rfl)
theorem dL_law_1038 : decode cL_law 1038 = .ok (.iadd, 1) := dk_96 (dk_at dksL_law_34 3 rfl rfl)
theorem dL_law_1039 : decode cL_law 1039 = .ok (.iaload, 1) := dk_46 (dk_at dksL_law_34 4 rfl rfl)
theorem dL_law_1040 : decode cL_law 1040 = .ok (.aload_n 3, 1) := dk_45 (dk_at dksL_law_34 5 rfl rfl)
theorem dL_law_1041 : decode cL_law 1041 = .ok (.invokestatic 228, 3) := dk_184 0 228 (dk_at dksL_law_34 6 rfl rfl)
theorem dL_law_1044 : decode cL_law 1044 = .ok (.istore 6, 2) := dk_54 6 (dk_at dksL_law_34 9 rfl rfl)
theorem dL_law_1046 : decode cL_law 1046 = .ok (.aload_n 2, 1) := dk_44 (dk_at dksL_law_34 11 rfl rfl)
theorem dL_law_1047 : decode cL_law 1047 = .ok (.aload_n 0, 1) := dk_42 (dk_at dksL_law_34 12 rfl rfl)
theorem dL_law_1048 : decode cL_law 1048 = .ok (.iload 5, 2) := dk_21 5 (dk_at dksL_law_34 13 rfl rfl)
theorem dL_law_1050 : decode cL_law 1050 = .ok (.iconst 1, 1) := dk_4 (dk_at dksL_law_34 15 rfl rfl)
theorem dL_law_1051 : decode cL_law 1051 = .ok (.iadd, 1) := dk_96 (dk_at dksL_law_34 16 rfl rfl)
theorem dL_law_1052 : decode cL_law 1052 = .ok (.iaload, 1) := dk_46 (dk_at dksL_law_34 17 rfl rfl)
theorem dL_law_1053 : decode cL_law 1053 = .ok (.invokevirtual 230, 3) := dk_182 0 230 (dk_at dksL_law_34 18 rfl rfl)
theorem dL_law_1056 : decode cL_law 1056 = .ok (.istore 7, 2) := dk_54 7 (dk_at dksL_law_34 21 rfl rfl)
theorem dL_law_1058 : decode cL_law 1058 = .ok (.aload_n 2, 1) := dk_44 (dk_at dksL_law_34 23 rfl rfl)
theorem dL_law_1059 : decode cL_law 1059 = .ok (.invokevirtual 185, 3) := dk_182 0 185 (dk_at dksL_law_35 0 rfl rfl)
theorem dL_law_1062 : decode cL_law 1062 = .ok (.iload 6, 2) := dk_21 6 (dk_at dksL_law_35 3 rfl rfl)
theorem dL_law_1064 : decode cL_law 1064 = .ok (.if_icmp .eq 5, 3) := dk_159 0 5 (dk_at dksL_law_35 5 rfl rfl)
theorem dL_law_1067 : decode cL_law 1067 = .ok (.iconst 0, 1) := dk_3 (dk_at dksL_law_35 8 rfl rfl)
theorem dL_law_1068 : decode cL_law 1068 = .ok (.ireturn, 1) := dk_172 (dk_at dksL_law_35 9 rfl rfl)
theorem dL_law_1069 : decode cL_law 1069 = .ok (.iload 6, 2) := dk_21 6 (dk_at dksL_law_35 10 rfl rfl)
theorem dL_law_1071 : decode cL_law 1071 = .ok (.ifCond .ne 22, 3) := dk_154 0 22 (dk_at dksL_law_35 12 rfl rfl)
theorem dL_law_1074 : decode cL_law 1074 = .ok (.aload_n 3, 1) := dk_45 (dk_at dksL_law_35 15 rfl rfl)
theorem dL_law_1075 : decode cL_law 1075 = .ok (.iconst 0, 1) := dk_3 (dk_at dksL_law_35 16 rfl rfl)
theorem dL_law_1076 : decode cL_law 1076 = .ok (.laload, 1) := dk_47 (dk_at dksL_law_35 17 rfl rfl)
theorem dL_law_1077 : decode cL_law 1077 = .ok (.iload 7, 2) := dk_21 7 (dk_at dksL_law_35 18 rfl rfl)
theorem dL_law_1079 : decode cL_law 1079 = .ok (.ifCond .eq 7, 3) := dk_153 0 7 (dk_at dksL_law_35 20 rfl rfl)
theorem dL_law_1082 : decode cL_law 1082 = .ok (.lconst 1, 1) := dk_10 (dk_at dksL_law_35 23 rfl rfl)
theorem dL_law_1083 : decode cL_law 1083 = .ok (.goto 4, 3) := dk_167 0 4 (dk_at dksL_law_36 0 rfl rfl)
theorem dL_law_1086 : decode cL_law 1086 = .ok (.lconst 0, 1) := dk_9 (dk_at dksL_law_36 3 rfl rfl)
theorem dL_law_1087 : decode cL_law 1087 = .ok (.lcmp, 1) := dk_148 (dk_at dksL_law_36 4 rfl rfl)
theorem dL_law_1088 : decode cL_law 1088 = .ok (.ifCond .eq 5, 3) := dk_153 0 5 (dk_at dksL_law_36 5 rfl rfl)
theorem dL_law_1091 : decode cL_law 1091 = .ok (.iconst 0, 1) := dk_3 (dk_at dksL_law_36 8 rfl rfl)
theorem dL_law_1092 : decode cL_law 1092 = .ok (.ireturn, 1) := dk_172 (dk_at dksL_law_36 9 rfl rfl)
theorem dL_law_1093 : decode cL_law 1093 = .ok (.goto 2230, 3) := dk_167 8 182 (dk_at dksL_law_36 10 rfl rfl)
theorem dL_law_1096 : decode cL_law 1096 = .ok (.aload_n 1, 1) := dk_43 (dk_at dksL_law_36 13 rfl rfl)
theorem dL_law_1097 : decode cL_law 1097 = .ok (.invokevirtual 231, 3) := dk_182 0 231 (dk_at dksL_law_36 14 rfl rfl)
theorem dL_law_1100 : decode cL_law 1100 = .ok (.aload_n 2, 1) := dk_44 (dk_at dksL_law_36 17 rfl rfl)
theorem dL_law_1101 : decode cL_law 1101 = .ok (.invokevirtual 234, 3) := dk_182 0 234 (dk_at dksL_law_36 18 rfl rfl)
theorem dL_law_1104 : decode cL_law 1104 = .ok (.if_icmp .eq 2219, 3) := dk_159 8 171 (dk_at dksL_law_36 21 rfl rfl)
theorem dL_law_1107 : decode cL_law 1107 = .ok (.iconst 0, 1) := dk_3 (dk_at dksL_law_37 0 rfl rfl)
theorem dL_law_1108 : decode cL_law 1108 = .ok (.ireturn, 1) := dk_172 (dk_at dksL_law_37 1 rfl rfl)
theorem dL_law_1109 : decode cL_law 1109 = .ok (.aload_n 1, 1) := dk_43 (dk_at dksL_law_37 2 rfl rfl)
theorem dL_law_1110 : decode cL_law 1110 = .ok (.aload_n 0, 1) := dk_42 (dk_at dksL_law_37 3 rfl rfl)
theorem dL_law_1111 : decode cL_law 1111 = .ok (.iload 5, 2) := dk_21 5 (dk_at dksL_law_37 4 rfl rfl)
theorem dL_law_1113 : decode cL_law 1113 = .ok (.iconst 1, 1) := dk_4 (dk_at dksL_law_37 6 rfl rfl)
theorem dL_law_1114 : decode cL_law 1114 = .ok (.iadd, 1) := dk_96 (dk_at dksL_law_37 7 rfl rfl)
theorem dL_law_1115 : decode cL_law 1115 = .ok (.iaload, 1) := dk_46 (dk_at dksL_law_37 8 rfl rfl)
theorem dL_law_1116 : decode cL_law 1116 = .ok (.aload_n 0, 1) := dk_42 (dk_at dksL_law_37 9 rfl rfl)
theorem dL_law_1117 : decode cL_law 1117 = .ok (.iload 5, 2) := dk_21 5 (dk_at dksL_law_37 10 rfl rfl)
theorem dL_law_1119 : decode cL_law 1119 = .ok (.iconst 2, 1) := dk_5 (dk_at dksL_law_37 12 rfl rfl)
theorem dL_law_1120 : decode cL_law 1120 = .ok (.iadd, 1) := dk_96 (dk_at dksL_law_37 13 rfl rfl)
theorem dL_law_1121 : decode cL_law 1121 = .ok (.iaload, 1) := dk_46 (dk_at dksL_law_37 14 rfl rfl)
theorem dL_law_1122 : decode cL_law 1122 = .ok (.aload_n 3, 1) := dk_45 (dk_at dksL_law_37 15 rfl rfl)
theorem dL_law_1123 : decode cL_law 1123 = .ok (.invokestatic 235, 3) := dk_184 0 235 (dk_at dksL_law_37 16 rfl rfl)
theorem dL_law_1126 : decode cL_law 1126 = .ok (.istore 6, 2) := dk_54 6 (dk_at dksL_law_37 19 rfl rfl)
theorem dL_law_1128 : decode cL_law 1128 = .ok (.aload_n 2, 1) := dk_44 (dk_at dksL_law_37 21 rfl rfl)
theorem dL_law_1129 : decode cL_law 1129 = .ok (.aload_n 0, 1) := dk_42 (dk_at dksL_law_37 22 rfl rfl)
theorem dL_law_1130 : decode cL_law 1130 = .ok (.iload 5, 2) := dk_21 5 (dk_at dksL_law_38 0 rfl rfl)
theorem dL_law_1132 : decode cL_law 1132 = .ok (.iconst 1, 1) := dk_4 (dk_at dksL_law_38 2 rfl rfl)
theorem dL_law_1133 : decode cL_law 1133 = .ok (.iadd, 1) := dk_96 (dk_at dksL_law_38 3 rfl rfl)
theorem dL_law_1134 : decode cL_law 1134 = .ok (.iaload, 1) := dk_46 (dk_at dksL_law_38 4 rfl rfl)
theorem dL_law_1135 : decode cL_law 1135 = .ok (.aload_n 0, 1) := dk_42 (dk_at dksL_law_38 5 rfl rfl)
theorem dL_law_1136 : decode cL_law 1136 = .ok (.iload 5, 2) := dk_21 5 (dk_at dksL_law_38 6 rfl rfl)
theorem dL_law_1138 : decode cL_law 1138 = .ok (.iconst 2, 1) := dk_5 (dk_at dksL_law_38 8 rfl rfl)
theorem dL_law_1139 : decode cL_law 1139 = .ok (.iadd, 1) := dk_96 (dk_at dksL_law_38 9 rfl rfl)
theorem dL_law_1140 : decode cL_law 1140 = .ok (.iaload, 1) := dk_46 (dk_at dksL_law_38 10 rfl rfl)
theorem dL_law_1141 : decode cL_law 1141 = .ok (.invokevirtual 237, 3) := dk_182 0 237 (dk_at dksL_law_38 11 rfl rfl)
theorem dL_law_1144 : decode cL_law 1144 = .ok (.istore 7, 2) := dk_54 7 (dk_at dksL_law_38 14 rfl rfl)
theorem dL_law_1146 : decode cL_law 1146 = .ok (.aload_n 2, 1) := dk_44 (dk_at dksL_law_38 16 rfl rfl)
theorem dL_law_1147 : decode cL_law 1147 = .ok (.invokevirtual 185, 3) := dk_182 0 185 (dk_at dksL_law_38 17 rfl rfl)
theorem dL_law_1150 : decode cL_law 1150 = .ok (.iload 6, 2) := dk_21 6 (dk_at dksL_law_38 20 rfl rfl)
theorem dL_law_1152 : decode cL_law 1152 = .ok (.if_icmp .eq 5, 3) := dk_159 0 5 (dk_at dksL_law_39 0 rfl rfl)
theorem dL_law_1155 : decode cL_law 1155 = .ok (.iconst 0, 1) := dk_3 (dk_at dksL_law_39 3 rfl rfl)
theorem dL_law_1156 : decode cL_law 1156 = .ok (.ireturn, 1) := dk_172 (dk_at dksL_law_39 4 rfl rfl)
theorem dL_law_1157 : decode cL_law 1157 = .ok (.iload 6, 2) := dk_21 6 (dk_at dksL_law_39 5 rfl rfl)
theorem dL_law_1159 : decode cL_law 1159 = .ok (.ifCond .ne 15, 3) := dk_154 0 15 (dk_at dksL_law_39 7 rfl rfl)
theorem dL_law_1162 : decode cL_law 1162 = .ok (.aload_n 3, 1) := dk_45 (dk_at dksL_law_39 10 rfl rfl)
theorem dL_law_1163 : decode cL_law 1163 = .ok (.iconst 0, 1) := dk_3 (dk_at dksL_law_39 11 rfl rfl)
theorem dL_law_1164 : decode cL_law 1164 = .ok (.laload, 1) := dk_47 (dk_at dksL_law_39 12 rfl rfl)
theorem dL_law_1165 : decode cL_law 1165 = .ok (.iload 7, 2) := dk_21 7 (dk_at dksL_law_39 13 rfl rfl)
theorem dL_law_1167 : decode cL_law 1167 = .ok (.i2l, 1) := dk_133 (dk_at dksL_law_39 15 rfl rfl)
theorem dL_law_1168 : decode cL_law 1168 = .ok (.lcmp, 1) := dk_148 (dk_at dksL_law_39 16 rfl rfl)
theorem dL_law_1169 : decode cL_law 1169 = .ok (.ifCond .eq 5, 3) := dk_153 0 5 (dk_at dksL_law_39 17 rfl rfl)
theorem dL_law_1172 : decode cL_law 1172 = .ok (.iconst 0, 1) := dk_3 (dk_at dksL_law_39 20 rfl rfl)
theorem dL_law_1173 : decode cL_law 1173 = .ok (.ireturn, 1) := dk_172 (dk_at dksL_law_39 21 rfl rfl)
theorem dL_law_1174 : decode cL_law 1174 = .ok (.goto 2149, 3) := dk_167 8 101 (dk_at dksL_law_40 0 rfl rfl)
theorem dL_law_1177 : decode cL_law 1177 = .ok (.aload_n 1, 1) := dk_43 (dk_at dksL_law_40 3 rfl rfl)
theorem dL_law_1178 : decode cL_law 1178 = .ok (.aload_n 0, 1) := dk_42 (dk_at dksL_law_40 4 rfl rfl)
theorem dL_law_1179 : decode cL_law 1179 = .ok (.iload 5, 2) := dk_21 5 (dk_at dksL_law_40 5 rfl rfl)
theorem dL_law_1181 : decode cL_law 1181 = .ok (.iconst 1, 1) := dk_4 (dk_at dksL_law_40 7 rfl rfl)
theorem dL_law_1182 : decode cL_law 1182 = .ok (.iadd, 1) := dk_96 (dk_at dksL_law_40 8 rfl rfl)
theorem dL_law_1183 : decode cL_law 1183 = .ok (.iaload, 1) := dk_46 (dk_at dksL_law_40 9 rfl rfl)
theorem dL_law_1184 : decode cL_law 1184 = .ok (.aload_n 0, 1) := dk_42 (dk_at dksL_law_40 10 rfl rfl)
theorem dL_law_1185 : decode cL_law 1185 = .ok (.iload 5, 2) := dk_21 5 (dk_at dksL_law_40 11 rfl rfl)
theorem dL_law_1187 : decode cL_law 1187 = .ok (.iconst 2, 1) := dk_5 (dk_at dksL_law_40 13 rfl rfl)
theorem dL_law_1188 : decode cL_law 1188 = .ok (.iadd, 1) := dk_96 (dk_at dksL_law_40 14 rfl rfl)
theorem dL_law_1189 : decode cL_law 1189 = .ok (.iaload, 1) := dk_46 (dk_at dksL_law_40 15 rfl rfl)
theorem dL_law_1190 : decode cL_law 1190 = .ok (.aload_n 3, 1) := dk_45 (dk_at dksL_law_40 16 rfl rfl)
theorem dL_law_1191 : decode cL_law 1191 = .ok (.invokestatic 238, 3) := dk_184 0 238 (dk_at dksL_law_40 17 rfl rfl)
theorem dL_law_1194 : decode cL_law 1194 = .ok (.istore 6, 2) := dk_54 6 (dk_at dksL_law_40 20 rfl rfl)
theorem dL_law_1196 : decode cL_law 1196 = .ok (.aload_n 2, 1) := dk_44 (dk_at dksL_law_40 22 rfl rfl)
theorem dL_law_1197 : decode cL_law 1197 = .ok (.aload_n 0, 1) := dk_42 (dk_at dksL_law_40 23 rfl rfl)
theorem dL_law_1198 : decode cL_law 1198 = .ok (.iload 5, 2) := dk_21 5 (dk_at dksL_law_41 0 rfl rfl)
theorem dL_law_1200 : decode cL_law 1200 = .ok (.iconst 1, 1) := dk_4 (dk_at dksL_law_41 2 rfl rfl)
theorem dL_law_1201 : decode cL_law 1201 = .ok (.iadd, 1) := dk_96 (dk_at dksL_law_41 3 rfl rfl)
theorem dL_law_1202 : decode cL_law 1202 = .ok (.iaload, 1) := dk_46 (dk_at dksL_law_41 4 rfl rfl)
theorem dL_law_1203 : decode cL_law 1203 = .ok (.aload_n 0, 1) := dk_42 (dk_at dksL_law_41 5 rfl rfl)
theorem dL_law_1204 : decode cL_law 1204 = .ok (.iload 5, 2) := dk_21 5 (dk_at dksL_law_41 6 rfl rfl)
theorem dL_law_1206 : decode cL_law 1206 = .ok (.iconst 2, 1) := dk_5 (dk_at dksL_law_41 8 rfl rfl)
theorem dL_law_1207 : decode cL_law 1207 = .ok (.iadd, 1) := dk_96 (dk_at dksL_law_41 9 rfl rfl)
theorem dL_law_1208 : decode cL_law 1208 = .ok (.iaload, 1) := dk_46 (dk_at dksL_law_41 10 rfl rfl)
theorem dL_law_1209 : decode cL_law 1209 = .ok (.invokevirtual 240, 3) := dk_182 0 240 (dk_at dksL_law_41 11 rfl rfl)
theorem dL_law_1212 : decode cL_law 1212 = .ok (.istore 7, 2) := dk_54 7 (dk_at dksL_law_41 14 rfl rfl)
theorem dL_law_1214 : decode cL_law 1214 = .ok (.aload_n 2, 1) := dk_44 (dk_at dksL_law_41 16 rfl rfl)
theorem dL_law_1215 : decode cL_law 1215 = .ok (.invokevirtual 185, 3) := dk_182 0 185 (dk_at dksL_law_41 17 rfl rfl)
theorem dL_law_1218 : decode cL_law 1218 = .ok (.iload 6, 2) := dk_21 6 (dk_at dksL_law_41 20 rfl rfl)
theorem dL_law_1220 : decode cL_law 1220 = .ok (.if_icmp .eq 5, 3) := dk_159 0 5 (dk_at dksL_law_42 0 rfl rfl)
theorem dL_law_1223 : decode cL_law 1223 = .ok (.iconst 0, 1) := dk_3 (dk_at dksL_law_42 3 rfl rfl)
theorem dL_law_1224 : decode cL_law 1224 = .ok (.ireturn, 1) := dk_172 (dk_at dksL_law_42 4 rfl rfl)
theorem dL_law_1225 : decode cL_law 1225 = .ok (.iload 6, 2) := dk_21 6 (dk_at dksL_law_42 5 rfl rfl)
theorem dL_law_1227 : decode cL_law 1227 = .ok (.ifCond .ne 15, 3) := dk_154 0 15 (dk_at dksL_law_42 7 rfl rfl)
theorem dL_law_1230 : decode cL_law 1230 = .ok (.aload_n 3, 1) := dk_45 (dk_at dksL_law_42 10 rfl rfl)
theorem dL_law_1231 : decode cL_law 1231 = .ok (.iconst 0, 1) := dk_3 (dk_at dksL_law_42 11 rfl rfl)
theorem dL_law_1232 : decode cL_law 1232 = .ok (.laload, 1) := dk_47 (dk_at dksL_law_42 12 rfl rfl)
theorem dL_law_1233 : decode cL_law 1233 = .ok (.iload 7, 2) := dk_21 7 (dk_at dksL_law_42 13 rfl rfl)
theorem dL_law_1235 : decode cL_law 1235 = .ok (.i2l, 1) := dk_133 (dk_at dksL_law_42 15 rfl rfl)
theorem dL_law_1236 : decode cL_law 1236 = .ok (.lcmp, 1) := dk_148 (dk_at dksL_law_42 16 rfl rfl)
theorem dL_law_1237 : decode cL_law 1237 = .ok (.ifCond .eq 5, 3) := dk_153 0 5 (dk_at dksL_law_42 17 rfl rfl)
theorem dL_law_1240 : decode cL_law 1240 = .ok (.iconst 0, 1) := dk_3 (dk_at dksL_law_42 20 rfl rfl)
theorem dL_law_1241 : decode cL_law 1241 = .ok (.ireturn, 1) := dk_172 (dk_at dksL_law_42 21 rfl rfl)
theorem dL_law_1242 : decode cL_law 1242 = .ok (.goto 2081, 3) := dk_167 8 33 (dk_at dksL_law_43 0 rfl rfl)
theorem dL_law_1245 : decode cL_law 1245 = .ok (.aload_n 1, 1) := dk_43 (dk_at dksL_law_43 3 rfl rfl)
theorem dL_law_1246 : decode cL_law 1246 = .ok (.aload_n 0, 1) := dk_42 (dk_at dksL_law_43 4 rfl rfl)
theorem dL_law_1247 : decode cL_law 1247 = .ok (.iload 5, 2) := dk_21 5 (dk_at dksL_law_43 5 rfl rfl)
theorem dL_law_1249 : decode cL_law 1249 = .ok (.iconst 1, 1) := dk_4 (dk_at dksL_law_43 7 rfl rfl)
theorem dL_law_1250 : decode cL_law 1250 = .ok (.iadd, 1) := dk_96 (dk_at dksL_law_43 8 rfl rfl)
theorem dL_law_1251 : decode cL_law 1251 = .ok (.iaload, 1) := dk_46 (dk_at dksL_law_43 9 rfl rfl)
theorem dL_law_1252 : decode cL_law 1252 = .ok (.aload_n 3, 1) := dk_45 (dk_at dksL_law_43 10 rfl rfl)
theorem dL_law_1253 : decode cL_law 1253 = .ok (.invokestatic 241, 3) := dk_184 0 241 (dk_at dksL_law_43 11 rfl rfl)
theorem dL_law_1256 : decode cL_law 1256 = .ok (.istore 6, 2) := dk_54 6 (dk_at dksL_law_43 14 rfl rfl)
theorem dL_law_1258 : decode cL_law 1258 = .ok (.aload_n 2, 1) := dk_44 (dk_at dksL_law_43 16 rfl rfl)
theorem dL_law_1259 : decode cL_law 1259 = .ok (.aload_n 0, 1) := dk_42 (dk_at dksL_law_43 17 rfl rfl)
theorem dL_law_1260 : decode cL_law 1260 = .ok (.iload 5, 2) := dk_21 5 (dk_at dksL_law_43 18 rfl rfl)
theorem dL_law_1262 : decode cL_law 1262 = .ok (.iconst 1, 1) := dk_4 (dk_at dksL_law_43 20 rfl rfl)
theorem dL_law_1263 : decode cL_law 1263 = .ok (.iadd, 1) := dk_96 (dk_at dksL_law_43 21 rfl rfl)
theorem dL_law_1264 : decode cL_law 1264 = .ok (.iaload, 1) := dk_46 (dk_at dksL_law_43 22 rfl rfl)
theorem dL_law_1265 : decode cL_law 1265 = .ok (.invokevirtual 243, 3) := dk_182 0 243 (dk_at dksL_law_44 0 rfl rfl)
theorem dL_law_1268 : decode cL_law 1268 = .ok (.istore 7, 2) := dk_54 7 (dk_at dksL_law_44 3 rfl rfl)
theorem dL_law_1270 : decode cL_law 1270 = .ok (.aload_n 2, 1) := dk_44 (dk_at dksL_law_44 5 rfl rfl)
theorem dL_law_1271 : decode cL_law 1271 = .ok (.invokevirtual 185, 3) := dk_182 0 185 (dk_at dksL_law_44 6 rfl rfl)
theorem dL_law_1274 : decode cL_law 1274 = .ok (.iload 6, 2) := dk_21 6 (dk_at dksL_law_44 9 rfl rfl)
theorem dL_law_1276 : decode cL_law 1276 = .ok (.if_icmp .eq 5, 3) := dk_159 0 5 (dk_at dksL_law_44 11 rfl rfl)
theorem dL_law_1279 : decode cL_law 1279 = .ok (.iconst 0, 1) := dk_3 (dk_at dksL_law_44 14 rfl rfl)
theorem dL_law_1280 : decode cL_law 1280 = .ok (.ireturn, 1) := dk_172 (dk_at dksL_law_44 15 rfl rfl)
theorem dL_law_1281 : decode cL_law 1281 = .ok (.iload 6, 2) := dk_21 6 (dk_at dksL_law_44 16 rfl rfl)
theorem dL_law_1283 : decode cL_law 1283 = .ok (.ifCond .ne 22, 3) := dk_154 0 22 (dk_at dksL_law_44 18 rfl rfl)
theorem dL_law_1286 : decode cL_law 1286 = .ok (.aload_n 3, 1) := dk_45 (dk_at dksL_law_44 21 rfl rfl)
theorem dL_law_1287 : decode cL_law 1287 = .ok (.iconst 0, 1) := dk_3 (dk_at dksL_law_44 22 rfl rfl)
theorem dL_law_1288 : decode cL_law 1288 = .ok (.laload, 1) := dk_47 (dk_at dksL_law_44 23 rfl rfl)
theorem dL_law_1289 : decode cL_law 1289 = .ok (.iload 7, 2) := dk_21 7 (dk_at dksL_law_45 0 rfl rfl)
theorem dL_law_1291 : decode cL_law 1291 = .ok (.ifCond .eq 7, 3) := dk_153 0 7 (dk_at dksL_law_45 2 rfl rfl)
theorem dL_law_1294 : decode cL_law 1294 = .ok (.lconst 1, 1) := dk_10 (dk_at dksL_law_45 5 rfl rfl)
theorem dL_law_1295 : decode cL_law 1295 = .ok (.goto 4, 3) := dk_167 0 4 (dk_at dksL_law_45 6 rfl rfl)
theorem dL_law_1298 : decode cL_law 1298 = .ok (.lconst 0, 1) := dk_9 (dk_at dksL_law_45 9 rfl rfl)
theorem dL_law_1299 : decode cL_law 1299 = .ok (.lcmp, 1) := dk_148 (dk_at dksL_law_45 10 rfl rfl)
theorem dL_law_1300 : decode cL_law 1300 = .ok (.ifCond .eq 5, 3) := dk_153 0 5 (dk_at dksL_law_45 11 rfl rfl)
theorem dL_law_1303 : decode cL_law 1303 = .ok (.iconst 0, 1) := dk_3 (dk_at dksL_law_45 14 rfl rfl)
theorem dL_law_1304 : decode cL_law 1304 = .ok (.ireturn, 1) := dk_172 (dk_at dksL_law_45 15 rfl rfl)
theorem dL_law_1305 : decode cL_law 1305 = .ok (.goto 2018, 3) := dk_167 7 226 (dk_at dksL_law_45 16 rfl rfl)
theorem dL_law_1308 : decode cL_law 1308 = .ok (.aload_n 1, 1) := dk_43 (dk_at dksL_law_45 19 rfl rfl)
theorem dL_law_1309 : decode cL_law 1309 = .ok (.invokevirtual 244, 3) := dk_182 0 244 (dk_at dksL_law_45 20 rfl rfl)
theorem dL_law_1312 : decode cL_law 1312 = .ok (.aload_n 2, 1) := dk_44 (dk_at dksL_law_45 23 rfl rfl)
theorem dL_law_1313 : decode cL_law 1313 = .ok (.invokevirtual 247, 3) := dk_182 0 247 (dk_at dksL_law_46 0 rfl rfl)
theorem dL_law_1316 : decode cL_law 1316 = .ok (.if_icmp .eq 2007, 3) := dk_159 7 215 (dk_at dksL_law_46 3 rfl rfl)
theorem dL_law_1319 : decode cL_law 1319 = .ok (.iconst 0, 1) := dk_3 (dk_at dksL_law_46 6 rfl rfl)
theorem dL_law_1320 : decode cL_law 1320 = .ok (.ireturn, 1) := dk_172 (dk_at dksL_law_46 7 rfl rfl)
theorem dL_law_1321 : decode cL_law 1321 = .ok (.aload_n 1, 1) := dk_43 (dk_at dksL_law_46 8 rfl rfl)
theorem dL_law_1322 : decode cL_law 1322 = .ok (.aload_n 0, 1) := dk_42 (dk_at dksL_law_46 9 rfl rfl)
theorem dL_law_1323 : decode cL_law 1323 = .ok (.iload 5, 2) := dk_21 5 (dk_at dksL_law_46 10 rfl rfl)
theorem dL_law_1325 : decode cL_law 1325 = .ok (.iconst 1, 1) := dk_4 (dk_at dksL_law_46 12 rfl rfl)
theorem dL_law_1326 : decode cL_law 1326 = .ok (.iadd, 1) := dk_96 (dk_at dksL_law_46 13 rfl rfl)
theorem dL_law_1327 : decode cL_law 1327 = .ok (.iaload, 1) := dk_46 (dk_at dksL_law_46 14 rfl rfl)
theorem dL_law_1328 : decode cL_law 1328 = .ok (.aload_n 3, 1) := dk_45 (dk_at dksL_law_46 15 rfl rfl)
theorem dL_law_1329 : decode cL_law 1329 = .ok (.invokestatic 248, 3) := dk_184 0 248 (dk_at dksL_law_46 16 rfl rfl)
theorem dL_law_1332 : decode cL_law 1332 = .ok (.istore 6, 2) := dk_54 6 (dk_at dksL_law_46 19 rfl rfl)
theorem dL_law_1334 : decode cL_law 1334 = .ok (.aload_n 2, 1) := dk_44 (dk_at dksL_law_46 21 rfl rfl)
theorem dL_law_1335 : decode cL_law 1335 = .ok (.aload_n 0, 1) := dk_42 (dk_at dksL_law_46 22 rfl rfl)
theorem dL_law_1336 : decode cL_law 1336 = .ok (.iload 5, 2) := dk_21 5 (dk_at dksL_law_47 0 rfl rfl)
theorem dL_law_1338 : decode cL_law 1338 = .ok (.iconst 1, 1) := dk_4 (dk_at dksL_law_47 2 rfl rfl)
theorem dL_law_1339 : decode cL_law 1339 = .ok (.iadd, 1) := dk_96 (dk_at dksL_law_47 3 rfl rfl)
theorem dL_law_1340 : decode cL_law 1340 = .ok (.iaload, 1) := dk_46 (dk_at dksL_law_47 4 rfl rfl)
theorem dL_law_1341 : decode cL_law 1341 = .ok (.invokevirtual 250, 3) := dk_182 0 250 (dk_at dksL_law_47 5 rfl rfl)
theorem dL_law_1344 : decode cL_law 1344 = .ok (.istore 7, 2) := dk_54 7 (dk_at dksL_law_47 8 rfl rfl)
theorem dL_law_1346 : decode cL_law 1346 = .ok (.aload_n 2, 1) := dk_44 (dk_at dksL_law_47 10 rfl rfl)
theorem dL_law_1347 : decode cL_law 1347 = .ok (.invokevirtual 185, 3) := dk_182 0 185 (dk_at dksL_law_47 11 rfl rfl)
theorem dL_law_1350 : decode cL_law 1350 = .ok (.iload 6, 2) := dk_21 6 (dk_at dksL_law_47 14 rfl rfl)
theorem dL_law_1352 : decode cL_law 1352 = .ok (.if_icmp .eq 5, 3) := dk_159 0 5 (dk_at dksL_law_47 16 rfl rfl)
theorem dL_law_1355 : decode cL_law 1355 = .ok (.iconst 0, 1) := dk_3 (dk_at dksL_law_47 19 rfl rfl)
theorem dL_law_1356 : decode cL_law 1356 = .ok (.ireturn, 1) := dk_172 (dk_at dksL_law_47 20 rfl rfl)
theorem dL_law_1357 : decode cL_law 1357 = .ok (.iload 6, 2) := dk_21 6 (dk_at dksL_law_47 21 rfl rfl)
theorem dL_law_1359 : decode cL_law 1359 = .ok (.ifCond .ne 15, 3) := dk_154 0 15 (dk_at dksL_law_48 0 rfl rfl)
theorem dL_law_1362 : decode cL_law 1362 = .ok (.aload_n 3, 1) := dk_45 (dk_at dksL_law_48 3 rfl rfl)
theorem dL_law_1363 : decode cL_law 1363 = .ok (.iconst 0, 1) := dk_3 (dk_at dksL_law_48 4 rfl rfl)
theorem dL_law_1364 : decode cL_law 1364 = .ok (.laload, 1) := dk_47 (dk_at dksL_law_48 5 rfl rfl)
theorem dL_law_1365 : decode cL_law 1365 = .ok (.iload 7, 2) := dk_21 7 (dk_at dksL_law_48 6 rfl rfl)
theorem dL_law_1367 : decode cL_law 1367 = .ok (.i2l, 1) := dk_133 (dk_at dksL_law_48 8 rfl rfl)
theorem dL_law_1368 : decode cL_law 1368 = .ok (.lcmp, 1) := dk_148 (dk_at dksL_law_48 9 rfl rfl)
theorem dL_law_1369 : decode cL_law 1369 = .ok (.ifCond .eq 5, 3) := dk_153 0 5 (dk_at dksL_law_48 10 rfl rfl)
theorem dL_law_1372 : decode cL_law 1372 = .ok (.iconst 0, 1) := dk_3 (dk_at dksL_law_48 13 rfl rfl)
theorem dL_law_1373 : decode cL_law 1373 = .ok (.ireturn, 1) := dk_172 (dk_at dksL_law_48 14 rfl rfl)
theorem dL_law_1374 : decode cL_law 1374 = .ok (.goto 1949, 3) := dk_167 7 157 (dk_at dksL_law_48 15 rfl rfl)
theorem dL_law_1377 : decode cL_law 1377 = .ok (.aload_n 1, 1) := dk_43 (dk_at dksL_law_48 18 rfl rfl)
theorem dL_law_1378 : decode cL_law 1378 = .ok (.aload_n 0, 1) := dk_42 (dk_at dksL_law_48 19 rfl rfl)
theorem dL_law_1379 : decode cL_law 1379 = .ok (.iload 5, 2) := dk_21 5 (dk_at dksL_law_48 20 rfl rfl)
theorem dL_law_1381 : decode cL_law 1381 = .ok (.iconst 1, 1) := dk_4 (dk_at dksL_law_48 22 rfl rfl)
theorem dL_law_1382 : decode cL_law 1382 = .ok (.iadd, 1) := dk_96 (dk_at dksL_law_48 23 rfl rfl)
theorem dL_law_1383 : decode cL_law 1383 = .ok (.iaload, 1) := dk_46 (dk_at dksL_law_49 0 rfl rfl)
theorem dL_law_1384 : decode cL_law 1384 = .ok (.aload_n 0, 1) := dk_42 (dk_at dksL_law_49 1 rfl rfl)
theorem dL_law_1385 : decode cL_law 1385 = .ok (.iload 5, 2) := dk_21 5 (dk_at dksL_law_49 2 rfl rfl)
theorem dL_law_1387 : decode cL_law 1387 = .ok (.iconst 2, 1) := dk_5 (dk_at dksL_law_49 4 rfl rfl)
theorem dL_law_1388 : decode cL_law 1388 = .ok (.iadd, 1) := dk_96 (dk_at dksL_law_49 5 rfl rfl)
theorem dL_law_1389 : decode cL_law 1389 = .ok (.iaload, 1) := dk_46 (dk_at dksL_law_49 6 rfl rfl)
theorem dL_law_1390 : decode cL_law 1390 = .ok (.aload_n 3, 1) := dk_45 (dk_at dksL_law_49 7 rfl rfl)
theorem dL_law_1391 : decode cL_law 1391 = .ok (.invokestatic 251, 3) := dk_184 0 251 (dk_at dksL_law_49 8 rfl rfl)
theorem dL_law_1394 : decode cL_law 1394 = .ok (.istore 6, 2) := dk_54 6 (dk_at dksL_law_49 11 rfl rfl)
theorem dL_law_1396 : decode cL_law 1396 = .ok (.aload_n 2, 1) := dk_44 (dk_at dksL_law_49 13 rfl rfl)
theorem dL_law_1397 : decode cL_law 1397 = .ok (.aload_n 0, 1) := dk_42 (dk_at dksL_law_49 14 rfl rfl)
theorem dL_law_1398 : decode cL_law 1398 = .ok (.iload 5, 2) := dk_21 5 (dk_at dksL_law_49 15 rfl rfl)
theorem dL_law_1400 : decode cL_law 1400 = .ok (.iconst 1, 1) := dk_4 (dk_at dksL_law_49 17 rfl rfl)
theorem dL_law_1401 : decode cL_law 1401 = .ok (.iadd, 1) := dk_96 (dk_at dksL_law_49 18 rfl rfl)
theorem dL_law_1402 : decode cL_law 1402 = .ok (.iaload, 1) := dk_46 (dk_at dksL_law_49 19 rfl rfl)
theorem dL_law_1403 : decode cL_law 1403 = .ok (.aload_n 0, 1) := dk_42 (dk_at dksL_law_49 20 rfl rfl)
theorem dL_law_1404 : decode cL_law 1404 = .ok (.iload 5, 2) := dk_21 5 (dk_at dksL_law_49 21 rfl rfl)
theorem dL_law_1406 : decode cL_law 1406 = .ok (.iconst 2, 1) := dk_5 (dk_at dksL_law_49 23 rfl rfl)
theorem dL_law_1407 : decode cL_law 1407 = .ok (.iadd, 1) := dk_96 (dk_at dksL_law_50 0 rfl rfl)
theorem dL_law_1408 : decode cL_law 1408 = .ok (.iaload, 1) := dk_46 (dk_at dksL_law_50 1 rfl rfl)
theorem dL_law_1409 : decode cL_law 1409 = .ok (.invokevirtual 253, 3) := dk_182 0 253 (dk_at dksL_law_50 2 rfl rfl)
theorem dL_law_1412 : decode cL_law 1412 = .ok (.istore 7, 2) := dk_54 7 (dk_at dksL_law_50 5 rfl rfl)
theorem dL_law_1414 : decode cL_law 1414 = .ok (.aload_n 2, 1) := dk_44 (dk_at dksL_law_50 7 rfl rfl)
theorem dL_law_1415 : decode cL_law 1415 = .ok (.invokevirtual 185, 3) := dk_182 0 185 (dk_at dksL_law_50 8 rfl rfl)
theorem dL_law_1418 : decode cL_law 1418 = .ok (.iload 6, 2) := dk_21 6 (dk_at dksL_law_50 11 rfl rfl)
theorem dL_law_1420 : decode cL_law 1420 = .ok (.if_icmp .eq 5, 3) := dk_159 0 5 (dk_at dksL_law_50 13 rfl rfl)
theorem dL_law_1423 : decode cL_law 1423 = .ok (.iconst 0, 1) := dk_3 (dk_at dksL_law_50 16 rfl rfl)
theorem dL_law_1424 : decode cL_law 1424 = .ok (.ireturn, 1) := dk_172 (dk_at dksL_law_50 17 rfl rfl)
theorem dL_law_1425 : decode cL_law 1425 = .ok (.iload 6, 2) := dk_21 6 (dk_at dksL_law_50 18 rfl rfl)
theorem dL_law_1427 : decode cL_law 1427 = .ok (.ifCond .ne 15, 3) := dk_154 0 15 (dk_at dksL_law_50 20 rfl rfl)
theorem dL_law_1430 : decode cL_law 1430 = .ok (.aload_n 3, 1) := dk_45 (dk_at dksL_law_50 23 rfl rfl)
theorem dL_law_1431 : decode cL_law 1431 = .ok (.iconst 0, 1) := dk_3 (dk_at dksL_law_51 0 rfl rfl)
theorem dL_law_1432 : decode cL_law 1432 = .ok (.laload, 1) := dk_47 (dk_at dksL_law_51 1 rfl rfl)
theorem dL_law_1433 : decode cL_law 1433 = .ok (.iload 7, 2) := dk_21 7 (dk_at dksL_law_51 2 rfl rfl)
theorem dL_law_1435 : decode cL_law 1435 = .ok (.i2l, 1) := dk_133 (dk_at dksL_law_51 4 rfl rfl)
theorem dL_law_1436 : decode cL_law 1436 = .ok (.lcmp, 1) := dk_148 (dk_at dksL_law_51 5 rfl rfl)
theorem dL_law_1437 : decode cL_law 1437 = .ok (.ifCond .eq 5, 3) := dk_153 0 5 (dk_at dksL_law_51 6 rfl rfl)
theorem dL_law_1440 : decode cL_law 1440 = .ok (.iconst 0, 1) := dk_3 (dk_at dksL_law_51 9 rfl rfl)
theorem dL_law_1441 : decode cL_law 1441 = .ok (.ireturn, 1) := dk_172 (dk_at dksL_law_51 10 rfl rfl)
theorem dL_law_1442 : decode cL_law 1442 = .ok (.goto 1881, 3) := dk_167 7 89 (dk_at dksL_law_51 11 rfl rfl)
theorem dL_law_1445 : decode cL_law 1445 = .ok (.aload_n 1, 1) := dk_43 (dk_at dksL_law_51 14 rfl rfl)
theorem dL_law_1446 : decode cL_law 1446 = .ok (.invokevirtual 254, 3) := dk_182 0 254 (dk_at dksL_law_51 15 rfl rfl)
theorem dL_law_1449 : decode cL_law 1449 = .ok (.aload_n 2, 1) := dk_44 (dk_at dksL_law_51 18 rfl rfl)
theorem dL_law_1450 : decode cL_law 1450 = .ok (.invokevirtual 257, 3) := dk_182 1 1 (dk_at dksL_law_51 19 rfl rfl)
theorem dL_law_1453 : decode cL_law 1453 = .ok (.if_icmp .eq 1870, 3) := dk_159 7 78 (dk_at dksL_law_52 0 rfl rfl)
theorem dL_law_1456 : decode cL_law 1456 = .ok (.iconst 0, 1) := dk_3 (dk_at dksL_law_52 3 rfl rfl)
theorem dL_law_1457 : decode cL_law 1457 = .ok (.ireturn, 1) := dk_172 (dk_at dksL_law_52 4 rfl rfl)
theorem dL_law_1458 : decode cL_law 1458 = .ok (.aload_n 1, 1) := dk_43 (dk_at dksL_law_52 5 rfl rfl)
theorem dL_law_1459 : decode cL_law 1459 = .ok (.aload_n 0, 1) := dk_42 (dk_at dksL_law_52 6 rfl rfl)
theorem dL_law_1460 : decode cL_law 1460 = .ok (.iload 5, 2) := dk_21 5 (dk_at dksL_law_52 7 rfl rfl)
theorem dL_law_1462 : decode cL_law 1462 = .ok (.iconst 1, 1) := dk_4 (dk_at dksL_law_52 9 rfl rfl)
theorem dL_law_1463 : decode cL_law 1463 = .ok (.iadd, 1) := dk_96 (dk_at dksL_law_52 10 rfl rfl)
theorem dL_law_1464 : decode cL_law 1464 = .ok (.iaload, 1) := dk_46 (dk_at dksL_law_52 11 rfl rfl)
theorem dL_law_1465 : decode cL_law 1465 = .ok (.aload_n 3, 1) := dk_45 (dk_at dksL_law_52 12 rfl rfl)
theorem dL_law_1466 : decode cL_law 1466 = .ok (.invokestatic 258, 3) := dk_184 1 2 (dk_at dksL_law_52 13 rfl rfl)
theorem dL_law_1469 : decode cL_law 1469 = .ok (.istore 6, 2) := dk_54 6 (dk_at dksL_law_52 16 rfl rfl)
theorem dL_law_1471 : decode cL_law 1471 = .ok (.aload_n 2, 1) := dk_44 (dk_at dksL_law_52 18 rfl rfl)
theorem dL_law_1472 : decode cL_law 1472 = .ok (.aload_n 0, 1) := dk_42 (dk_at dksL_law_52 19 rfl rfl)
theorem dL_law_1473 : decode cL_law 1473 = .ok (.iload 5, 2) := dk_21 5 (dk_at dksL_law_52 20 rfl rfl)
theorem dL_law_1475 : decode cL_law 1475 = .ok (.iconst 1, 1) := dk_4 (dk_at dksL_law_52 22 rfl rfl)
theorem dL_law_1476 : decode cL_law 1476 = .ok (.iadd, 1) := dk_96 (dk_at dksL_law_52 23 rfl rfl)
theorem dL_law_1477 : decode cL_law 1477 = .ok (.iaload, 1) := dk_46 (dk_at dksL_law_53 0 rfl rfl)
theorem dL_law_1478 : decode cL_law 1478 = .ok (.invokevirtual 260, 3) := dk_182 1 4 (dk_at dksL_law_53 1 rfl rfl)
theorem dL_law_1481 : decode cL_law 1481 = .ok (.istore 7, 2) := dk_54 7 (dk_at dksL_law_53 4 rfl rfl)
theorem dL_law_1483 : decode cL_law 1483 = .ok (.aload_n 2, 1) := dk_44 (dk_at dksL_law_53 6 rfl rfl)
theorem dL_law_1484 : decode cL_law 1484 = .ok (.invokevirtual 185, 3) := dk_182 0 185 (dk_at dksL_law_53 7 rfl rfl)
theorem dL_law_1487 : decode cL_law 1487 = .ok (.iload 6, 2) := dk_21 6 (dk_at dksL_law_53 10 rfl rfl)
theorem dL_law_1489 : decode cL_law 1489 = .ok (.if_icmp .eq 5, 3) := dk_159 0 5 (dk_at dksL_law_53 12 rfl rfl)
theorem dL_law_1492 : decode cL_law 1492 = .ok (.iconst 0, 1) := dk_3 (dk_at dksL_law_53 15 rfl rfl)
theorem dL_law_1493 : decode cL_law 1493 = .ok (.ireturn, 1) := dk_172 (dk_at dksL_law_53 16 rfl rfl)
theorem dL_law_1494 : decode cL_law 1494 = .ok (.iload 6, 2) := dk_21 6 (dk_at dksL_law_53 17 rfl rfl)
theorem dL_law_1496 : decode cL_law 1496 = .ok (.ifCond .ne 15, 3) := dk_154 0 15 (dk_at dksL_law_53 19 rfl rfl)
theorem dL_law_1499 : decode cL_law 1499 = .ok (.aload_n 3, 1) := dk_45 (dk_at dksL_law_53 22 rfl rfl)
theorem dL_law_1500 : decode cL_law 1500 = .ok (.iconst 0, 1) := dk_3 (dk_at dksL_law_53 23 rfl rfl)
theorem dL_law_1501 : decode cL_law 1501 = .ok (.laload, 1) := dk_47 (dk_at dksL_law_54 0 rfl rfl)
theorem dL_law_1502 : decode cL_law 1502 = .ok (.iload 7, 2) := dk_21 7 (dk_at dksL_law_54 1 rfl rfl)
theorem dL_law_1504 : decode cL_law 1504 = .ok (.i2l, 1) := dk_133 (dk_at dksL_law_54 3 rfl rfl)
theorem dL_law_1505 : decode cL_law 1505 = .ok (.lcmp, 1) := dk_148 (dk_at dksL_law_54 4 rfl rfl)
theorem dL_law_1506 : decode cL_law 1506 = .ok (.ifCond .eq 5, 3) := dk_153 0 5 (dk_at dksL_law_54 5 rfl rfl)
theorem dL_law_1509 : decode cL_law 1509 = .ok (.iconst 0, 1) := dk_3 (dk_at dksL_law_54 8 rfl rfl)
theorem dL_law_1510 : decode cL_law 1510 = .ok (.ireturn, 1) := dk_172 (dk_at dksL_law_54 9 rfl rfl)
theorem dL_law_1511 : decode cL_law 1511 = .ok (.goto 1812, 3) := dk_167 7 20 (dk_at dksL_law_54 10 rfl rfl)
theorem dL_law_1514 : decode cL_law 1514 = .ok (.aload_n 1, 1) := dk_43 (dk_at dksL_law_54 13 rfl rfl)
theorem dL_law_1515 : decode cL_law 1515 = .ok (.aload_n 0, 1) := dk_42 (dk_at dksL_law_54 14 rfl rfl)
theorem dL_law_1516 : decode cL_law 1516 = .ok (.iload 5, 2) := dk_21 5 (dk_at dksL_law_54 15 rfl rfl)
theorem dL_law_1518 : decode cL_law 1518 = .ok (.iconst 1, 1) := dk_4 (dk_at dksL_law_54 17 rfl rfl)
theorem dL_law_1519 : decode cL_law 1519 = .ok (.iadd, 1) := dk_96 (dk_at dksL_law_54 18 rfl rfl)
theorem dL_law_1520 : decode cL_law 1520 = .ok (.iaload, 1) := dk_46 (dk_at dksL_law_54 19 rfl rfl)
theorem dL_law_1521 : decode cL_law 1521 = .ok (.aload_n 3, 1) := dk_45 (dk_at dksL_law_54 20 rfl rfl)
theorem dL_law_1522 : decode cL_law 1522 = .ok (.invokestatic 261, 3) := dk_184 1 5 (dk_at dksL_law_54 21 rfl rfl)
theorem dL_law_1525 : decode cL_law 1525 = .ok (.istore 6, 2) := dk_54 6 (dk_at dksL_law_55 0 rfl rfl)
theorem dL_law_1527 : decode cL_law 1527 = .ok (.aload_n 2, 1) := dk_44 (dk_at dksL_law_55 2 rfl rfl)
theorem dL_law_1528 : decode cL_law 1528 = .ok (.aload_n 0, 1) := dk_42 (dk_at dksL_law_55 3 rfl rfl)
theorem dL_law_1529 : decode cL_law 1529 = .ok (.iload 5, 2) := dk_21 5 (dk_at dksL_law_55 4 rfl rfl)
theorem dL_law_1531 : decode cL_law 1531 = .ok (.iconst 1, 1) := dk_4 (dk_at dksL_law_55 6 rfl rfl)
theorem dL_law_1532 : decode cL_law 1532 = .ok (.iadd, 1) := dk_96 (dk_at dksL_law_55 7 rfl rfl)
theorem dL_law_1533 : decode cL_law 1533 = .ok (.iaload, 1) := dk_46 (dk_at dksL_law_55 8 rfl rfl)
theorem dL_law_1534 : decode cL_law 1534 = .ok (.invokevirtual 263, 3) := dk_182 1 7 (dk_at dksL_law_55 9 rfl rfl)
theorem dL_law_1537 : decode cL_law 1537 = .ok (.istore 7, 2) := dk_54 7 (dk_at dksL_law_55 12 rfl rfl)
theorem dL_law_1539 : decode cL_law 1539 = .ok (.aload_n 2, 1) := dk_44 (dk_at dksL_law_55 14 rfl rfl)
theorem dL_law_1540 : decode cL_law 1540 = .ok (.invokevirtual 185, 3) := dk_182 0 185 (dk_at dksL_law_55 15 rfl rfl)
theorem dL_law_1543 : decode cL_law 1543 = .ok (.iload 6, 2) := dk_21 6 (dk_at dksL_law_55 18 rfl rfl)
theorem dL_law_1545 : decode cL_law 1545 = .ok (.if_icmp .eq 5, 3) := dk_159 0 5 (dk_at dksL_law_55 20 rfl rfl)
theorem dL_law_1548 : decode cL_law 1548 = .ok (.iconst 0, 1) := dk_3 (dk_at dksL_law_55 23 rfl rfl)
theorem dL_law_1549 : decode cL_law 1549 = .ok (.ireturn, 1) := dk_172 (dk_at dksL_law_56 0 rfl rfl)
theorem dL_law_1550 : decode cL_law 1550 = .ok (.iload 6, 2) := dk_21 6 (dk_at dksL_law_56 1 rfl rfl)
theorem dL_law_1552 : decode cL_law 1552 = .ok (.ifCond .ne 15, 3) := dk_154 0 15 (dk_at dksL_law_56 3 rfl rfl)
theorem dL_law_1555 : decode cL_law 1555 = .ok (.aload_n 3, 1) := dk_45 (dk_at dksL_law_56 6 rfl rfl)
theorem dL_law_1556 : decode cL_law 1556 = .ok (.iconst 0, 1) := dk_3 (dk_at dksL_law_56 7 rfl rfl)
theorem dL_law_1557 : decode cL_law 1557 = .ok (.laload, 1) := dk_47 (dk_at dksL_law_56 8 rfl rfl)
theorem dL_law_1558 : decode cL_law 1558 = .ok (.iload 7, 2) := dk_21 7 (dk_at dksL_law_56 9 rfl rfl)
theorem dL_law_1560 : decode cL_law 1560 = .ok (.i2l, 1) := dk_133 (dk_at dksL_law_56 11 rfl rfl)
theorem dL_law_1561 : decode cL_law 1561 = .ok (.lcmp, 1) := dk_148 (dk_at dksL_law_56 12 rfl rfl)
theorem dL_law_1562 : decode cL_law 1562 = .ok (.ifCond .eq 5, 3) := dk_153 0 5 (dk_at dksL_law_56 13 rfl rfl)
theorem dL_law_1565 : decode cL_law 1565 = .ok (.iconst 0, 1) := dk_3 (dk_at dksL_law_56 16 rfl rfl)
theorem dL_law_1566 : decode cL_law 1566 = .ok (.ireturn, 1) := dk_172 (dk_at dksL_law_56 17 rfl rfl)
theorem dL_law_1567 : decode cL_law 1567 = .ok (.goto 1756, 3) := dk_167 6 220 (dk_at dksL_law_56 18 rfl rfl)
theorem dL_law_1570 : decode cL_law 1570 = .ok (.aload_n 1, 1) := dk_43 (dk_at dksL_law_56 21 rfl rfl)
theorem dL_law_1571 : decode cL_law 1571 = .ok (.aload_n 0, 1) := dk_42 (dk_at dksL_law_56 22 rfl rfl)
theorem dL_law_1572 : decode cL_law 1572 = .ok (.iload 5, 2) := dk_21 5 (dk_at dksL_law_57 0 rfl rfl)
theorem dL_law_1574 : decode cL_law 1574 = .ok (.iconst 1, 1) := dk_4 (dk_at dksL_law_57 2 rfl rfl)
theorem dL_law_1575 : decode cL_law 1575 = .ok (.iadd, 1) := dk_96 (dk_at dksL_law_57 3 rfl rfl)
theorem dL_law_1576 : decode cL_law 1576 = .ok (.iaload, 1) := dk_46 (dk_at dksL_law_57 4 rfl rfl)
theorem dL_law_1577 : decode cL_law 1577 = .ok (.aload_n 3, 1) := dk_45 (dk_at dksL_law_57 5 rfl rfl)
theorem dL_law_1578 : decode cL_law 1578 = .ok (.invokestatic 264, 3) := dk_184 1 8 (dk_at dksL_law_57 6 rfl rfl)
theorem dL_law_1581 : decode cL_law 1581 = .ok (.istore 6, 2) := dk_54 6 (dk_at dksL_law_57 9 rfl rfl)
theorem dL_law_1583 : decode cL_law 1583 = .ok (.aload_n 2, 1) := dk_44 (dk_at dksL_law_57 11 rfl rfl)
theorem dL_law_1584 : decode cL_law 1584 = .ok (.aload_n 0, 1) := dk_42 (dk_at dksL_law_57 12 rfl rfl)
theorem dL_law_1585 : decode cL_law 1585 = .ok (.iload 5, 2) := dk_21 5 (dk_at dksL_law_57 13 rfl rfl)
theorem dL_law_1587 : decode cL_law 1587 = .ok (.iconst 1, 1) := dk_4 (dk_at dksL_law_57 15 rfl rfl)
theorem dL_law_1588 : decode cL_law 1588 = .ok (.iadd, 1) := dk_96 (dk_at dksL_law_57 16 rfl rfl)
theorem dL_law_1589 : decode cL_law 1589 = .ok (.iaload, 1) := dk_46 (dk_at dksL_law_57 17 rfl rfl)
theorem dL_law_1590 : decode cL_law 1590 = .ok (.invokevirtual 266, 3) := dk_182 1 10 (dk_at dksL_law_57 18 rfl rfl)
theorem dL_law_1593 : decode cL_law 1593 = .ok (.istore 7, 2) := dk_54 7 (dk_at dksL_law_57 21 rfl rfl)
theorem dL_law_1595 : decode cL_law 1595 = .ok (.aload_n 2, 1) := dk_44 (dk_at dksL_law_57 23 rfl rfl)
theorem dL_law_1596 : decode cL_law 1596 = .ok (.invokevirtual 185, 3) := dk_182 0 185 (dk_at dksL_law_58 0 rfl rfl)
theorem dL_law_1599 : decode cL_law 1599 = .ok (.iload 6, 2) := dk_21 6 (dk_at dksL_law_58 3 rfl rfl)
theorem dL_law_1601 : decode cL_law 1601 = .ok (.if_icmp .eq 5, 3) := dk_159 0 5 (dk_at dksL_law_58 5 rfl rfl)
theorem dL_law_1604 : decode cL_law 1604 = .ok (.iconst 0, 1) := dk_3 (dk_at dksL_law_58 8 rfl rfl)
theorem dL_law_1605 : decode cL_law 1605 = .ok (.ireturn, 1) := dk_172 (dk_at dksL_law_58 9 rfl rfl)
theorem dL_law_1606 : decode cL_law 1606 = .ok (.iload 6, 2) := dk_21 6 (dk_at dksL_law_58 10 rfl rfl)
theorem dL_law_1608 : decode cL_law 1608 = .ok (.ifCond .ne 15, 3) := dk_154 0 15 (dk_at dksL_law_58 12 rfl rfl)
theorem dL_law_1611 : decode cL_law 1611 = .ok (.aload_n 3, 1) := dk_45 (dk_at dksL_law_58 15 rfl rfl)
theorem dL_law_1612 : decode cL_law 1612 = .ok (.iconst 0, 1) := dk_3 (dk_at dksL_law_58 16 rfl rfl)
theorem dL_law_1613 : decode cL_law 1613 = .ok (.laload, 1) := dk_47 (dk_at dksL_law_58 17 rfl rfl)
theorem dL_law_1614 : decode cL_law 1614 = .ok (.iload 7, 2) := dk_21 7 (dk_at dksL_law_58 18 rfl rfl)
theorem dL_law_1616 : decode cL_law 1616 = .ok (.i2l, 1) := dk_133 (dk_at dksL_law_58 20 rfl rfl)
theorem dL_law_1617 : decode cL_law 1617 = .ok (.lcmp, 1) := dk_148 (dk_at dksL_law_58 21 rfl rfl)
theorem dL_law_1618 : decode cL_law 1618 = .ok (.ifCond .eq 5, 3) := dk_153 0 5 (dk_at dksL_law_59 0 rfl rfl)
theorem dL_law_1621 : decode cL_law 1621 = .ok (.iconst 0, 1) := dk_3 (dk_at dksL_law_59 3 rfl rfl)
theorem dL_law_1622 : decode cL_law 1622 = .ok (.ireturn, 1) := dk_172 (dk_at dksL_law_59 4 rfl rfl)
theorem dL_law_1623 : decode cL_law 1623 = .ok (.goto 1700, 3) := dk_167 6 164 (dk_at dksL_law_59 5 rfl rfl)
theorem dL_law_1626 : decode cL_law 1626 = .ok (.aload_n 1, 1) := dk_43 (dk_at dksL_law_59 8 rfl rfl)
theorem dL_law_1627 : decode cL_law 1627 = .ok (.aload_n 0, 1) := dk_42 (dk_at dksL_law_59 9 rfl rfl)
theorem dL_law_1628 : decode cL_law 1628 = .ok (.iload 5, 2) := dk_21 5 (dk_at dksL_law_59 10 rfl rfl)
theorem dL_law_1630 : decode cL_law 1630 = .ok (.iconst 1, 1) := dk_4 (dk_at dksL_law_59 12 rfl rfl)
theorem dL_law_1631 : decode cL_law 1631 = .ok (.iadd, 1) := dk_96 (dk_at dksL_law_59 13 rfl rfl)
theorem dL_law_1632 : decode cL_law 1632 = .ok (.iaload, 1) := dk_46 (dk_at dksL_law_59 14 rfl rfl)
theorem dL_law_1633 : decode cL_law 1633 = .ok (.aload_n 0, 1) := dk_42 (dk_at dksL_law_59 15 rfl rfl)
theorem dL_law_1634 : decode cL_law 1634 = .ok (.iload 5, 2) := dk_21 5 (dk_at dksL_law_59 16 rfl rfl)
theorem dL_law_1636 : decode cL_law 1636 = .ok (.iconst 2, 1) := dk_5 (dk_at dksL_law_59 18 rfl rfl)
theorem dL_law_1637 : decode cL_law 1637 = .ok (.iadd, 1) := dk_96 (dk_at dksL_law_59 19 rfl rfl)
theorem dL_law_1638 : decode cL_law 1638 = .ok (.iaload, 1) := dk_46 (dk_at dksL_law_59 20 rfl rfl)
theorem dL_law_1639 : decode cL_law 1639 = .ok (.aload_n 3, 1) := dk_45 (dk_at dksL_law_59 21 rfl rfl)
theorem dL_law_1640 : decode cL_law 1640 = .ok (.invokestatic 267, 3) := dk_184 1 11 (dk_at dksL_law_60 0 rfl rfl)
theorem dL_law_1643 : decode cL_law 1643 = .ok (.istore 6, 2) := dk_54 6 (dk_at dksL_law_60 3 rfl rfl)
theorem dL_law_1645 : decode cL_law 1645 = .ok (.aload_n 2, 1) := dk_44 (dk_at dksL_law_60 5 rfl rfl)
theorem dL_law_1646 : decode cL_law 1646 = .ok (.aload_n 0, 1) := dk_42 (dk_at dksL_law_60 6 rfl rfl)
theorem dL_law_1647 : decode cL_law 1647 = .ok (.iload 5, 2) := dk_21 5 (dk_at dksL_law_60 7 rfl rfl)
theorem dL_law_1649 : decode cL_law 1649 = .ok (.iconst 1, 1) := dk_4 (dk_at dksL_law_60 9 rfl rfl)
theorem dL_law_1650 : decode cL_law 1650 = .ok (.iadd, 1) := dk_96 (dk_at dksL_law_60 10 rfl rfl)
theorem dL_law_1651 : decode cL_law 1651 = .ok (.iaload, 1) := dk_46 (dk_at dksL_law_60 11 rfl rfl)
theorem dL_law_1652 : decode cL_law 1652 = .ok (.aload_n 0, 1) := dk_42 (dk_at dksL_law_60 12 rfl rfl)
theorem dL_law_1653 : decode cL_law 1653 = .ok (.iload 5, 2) := dk_21 5 (dk_at dksL_law_60 13 rfl rfl)
theorem dL_law_1655 : decode cL_law 1655 = .ok (.iconst 2, 1) := dk_5 (dk_at dksL_law_60 15 rfl rfl)
theorem dL_law_1656 : decode cL_law 1656 = .ok (.iadd, 1) := dk_96 (dk_at dksL_law_60 16 rfl rfl)
theorem dL_law_1657 : decode cL_law 1657 = .ok (.iaload, 1) := dk_46 (dk_at dksL_law_60 17 rfl rfl)
theorem dL_law_1658 : decode cL_law 1658 = .ok (.invokevirtual 269, 3) := dk_182 1 13 (dk_at dksL_law_60 18 rfl rfl)
theorem dL_law_1661 : decode cL_law 1661 = .ok (.istore 7, 2) := dk_54 7 (dk_at dksL_law_60 21 rfl rfl)
theorem dL_law_1663 : decode cL_law 1663 = .ok (.aload_n 2, 1) := dk_44 (dk_at dksL_law_60 23 rfl rfl)
theorem dL_law_1664 : decode cL_law 1664 = .ok (.invokevirtual 185, 3) := dk_182 0 185 (dk_at dksL_law_61 0 rfl rfl)
theorem dL_law_1667 : decode cL_law 1667 = .ok (.iload 6, 2) := dk_21 6 (dk_at dksL_law_61 3 rfl rfl)
theorem dL_law_1669 : decode cL_law 1669 = .ok (.if_icmp .eq 5, 3) := dk_159 0 5 (dk_at dksL_law_61 5 rfl rfl)
theorem dL_law_1672 : decode cL_law 1672 = .ok (.iconst 0, 1) := dk_3 (dk_at dksL_law_61 8 rfl rfl)
theorem dL_law_1673 : decode cL_law 1673 = .ok (.ireturn, 1) := dk_172 (dk_at dksL_law_61 9 rfl rfl)
theorem dL_law_1674 : decode cL_law 1674 = .ok (.iload 6, 2) := dk_21 6 (dk_at dksL_law_61 10 rfl rfl)
theorem dL_law_1676 : decode cL_law 1676 = .ok (.ifCond .ne 22, 3) := dk_154 0 22 (dk_at dksL_law_61 12 rfl rfl)
theorem dL_law_1679 : decode cL_law 1679 = .ok (.aload_n 3, 1) := dk_45 (dk_at dksL_law_61 15 rfl rfl)
theorem dL_law_1680 : decode cL_law 1680 = .ok (.iconst 0, 1) := dk_3 (dk_at dksL_law_61 16 rfl rfl)
theorem dL_law_1681 : decode cL_law 1681 = .ok (.laload, 1) := dk_47 (dk_at dksL_law_61 17 rfl rfl)
theorem dL_law_1682 : decode cL_law 1682 = .ok (.iload 7, 2) := dk_21 7 (dk_at dksL_law_61 18 rfl rfl)
theorem dL_law_1684 : decode cL_law 1684 = .ok (.ifCond .eq 7, 3) := dk_153 0 7 (dk_at dksL_law_61 20 rfl rfl)
theorem dL_law_1687 : decode cL_law 1687 = .ok (.lconst 1, 1) := dk_10 (dk_at dksL_law_61 23 rfl rfl)
theorem dL_law_1688 : decode cL_law 1688 = .ok (.goto 4, 3) := dk_167 0 4 (dk_at dksL_law_62 0 rfl rfl)
theorem dL_law_1691 : decode cL_law 1691 = .ok (.lconst 0, 1) := dk_9 (dk_at dksL_law_62 3 rfl rfl)
theorem dL_law_1692 : decode cL_law 1692 = .ok (.lcmp, 1) := dk_148 (dk_at dksL_law_62 4 rfl rfl)
theorem dL_law_1693 : decode cL_law 1693 = .ok (.ifCond .eq 5, 3) := dk_153 0 5 (dk_at dksL_law_62 5 rfl rfl)
theorem dL_law_1696 : decode cL_law 1696 = .ok (.iconst 0, 1) := dk_3 (dk_at dksL_law_62 8 rfl rfl)
theorem dL_law_1697 : decode cL_law 1697 = .ok (.ireturn, 1) := dk_172 (dk_at dksL_law_62 9 rfl rfl)
theorem dL_law_1698 : decode cL_law 1698 = .ok (.goto 1625, 3) := dk_167 6 89 (dk_at dksL_law_62 10 rfl rfl)
theorem dL_law_1701 : decode cL_law 1701 = .ok (.aload_n 1, 1) := dk_43 (dk_at dksL_law_62 13 rfl rfl)
theorem dL_law_1702 : decode cL_law 1702 = .ok (.aload_n 0, 1) := dk_42 (dk_at dksL_law_62 14 rfl rfl)
theorem dL_law_1703 : decode cL_law 1703 = .ok (.iload 5, 2) := dk_21 5 (dk_at dksL_law_62 15 rfl rfl)
theorem dL_law_1705 : decode cL_law 1705 = .ok (.iconst 1, 1) := dk_4 (dk_at dksL_law_62 17 rfl rfl)
theorem dL_law_1706 : decode cL_law 1706 = .ok (.iadd, 1) := dk_96 (dk_at dksL_law_62 18 rfl rfl)
theorem dL_law_1707 : decode cL_law 1707 = .ok (.iaload, 1) := dk_46 (dk_at dksL_law_62 19 rfl rfl)
theorem dL_law_1708 : decode cL_law 1708 = .ok (.aload_n 3, 1) := dk_45 (dk_at dksL_law_62 20 rfl rfl)
theorem dL_law_1709 : decode cL_law 1709 = .ok (.invokestatic 270, 3) := dk_184 1 14 (dk_at dksL_law_62 21 rfl rfl)
theorem dL_law_1712 : decode cL_law 1712 = .ok (.istore 6, 2) := dk_54 6 (dk_at dksL_law_63 0 rfl rfl)
theorem dL_law_1714 : decode cL_law 1714 = .ok (.aload_n 2, 1) := dk_44 (dk_at dksL_law_63 2 rfl rfl)
theorem dL_law_1715 : decode cL_law 1715 = .ok (.aload_n 0, 1) := dk_42 (dk_at dksL_law_63 3 rfl rfl)
theorem dL_law_1716 : decode cL_law 1716 = .ok (.iload 5, 2) := dk_21 5 (dk_at dksL_law_63 4 rfl rfl)
theorem dL_law_1718 : decode cL_law 1718 = .ok (.iconst 1, 1) := dk_4 (dk_at dksL_law_63 6 rfl rfl)
theorem dL_law_1719 : decode cL_law 1719 = .ok (.iadd, 1) := dk_96 (dk_at dksL_law_63 7 rfl rfl)
theorem dL_law_1720 : decode cL_law 1720 = .ok (.iaload, 1) := dk_46 (dk_at dksL_law_63 8 rfl rfl)
theorem dL_law_1721 : decode cL_law 1721 = .ok (.invokevirtual 272, 3) := dk_182 1 16 (dk_at dksL_law_63 9 rfl rfl)
theorem dL_law_1724 : decode cL_law 1724 = .ok (.istore 7, 2) := dk_54 7 (dk_at dksL_law_63 12 rfl rfl)
theorem dL_law_1726 : decode cL_law 1726 = .ok (.aload_n 2, 1) := dk_44 (dk_at dksL_law_63 14 rfl rfl)
theorem dL_law_1727 : decode cL_law 1727 = .ok (.invokevirtual 185, 3) := dk_182 0 185 (dk_at dksL_law_63 15 rfl rfl)
theorem dL_law_1730 : decode cL_law 1730 = .ok (.iload 6, 2) := dk_21 6 (dk_at dksL_law_63 18 rfl rfl)
theorem dL_law_1732 : decode cL_law 1732 = .ok (.if_icmp .eq 5, 3) := dk_159 0 5 (dk_at dksL_law_63 20 rfl rfl)
theorem dL_law_1735 : decode cL_law 1735 = .ok (.iconst 0, 1) := dk_3 (dk_at dksL_law_63 23 rfl rfl)
theorem dL_law_1736 : decode cL_law 1736 = .ok (.ireturn, 1) := dk_172 (dk_at dksL_law_64 0 rfl rfl)
theorem dL_law_1737 : decode cL_law 1737 = .ok (.iload 6, 2) := dk_21 6 (dk_at dksL_law_64 1 rfl rfl)
theorem dL_law_1739 : decode cL_law 1739 = .ok (.ifCond .ne 15, 3) := dk_154 0 15 (dk_at dksL_law_64 3 rfl rfl)
theorem dL_law_1742 : decode cL_law 1742 = .ok (.aload_n 3, 1) := dk_45 (dk_at dksL_law_64 6 rfl rfl)
theorem dL_law_1743 : decode cL_law 1743 = .ok (.iconst 0, 1) := dk_3 (dk_at dksL_law_64 7 rfl rfl)
theorem dL_law_1744 : decode cL_law 1744 = .ok (.laload, 1) := dk_47 (dk_at dksL_law_64 8 rfl rfl)
theorem dL_law_1745 : decode cL_law 1745 = .ok (.iload 7, 2) := dk_21 7 (dk_at dksL_law_64 9 rfl rfl)
theorem dL_law_1747 : decode cL_law 1747 = .ok (.i2l, 1) := dk_133 (dk_at dksL_law_64 11 rfl rfl)
theorem dL_law_1748 : decode cL_law 1748 = .ok (.lcmp, 1) := dk_148 (dk_at dksL_law_64 12 rfl rfl)
theorem dL_law_1749 : decode cL_law 1749 = .ok (.ifCond .eq 5, 3) := dk_153 0 5 (dk_at dksL_law_64 13 rfl rfl)
theorem dL_law_1752 : decode cL_law 1752 = .ok (.iconst 0, 1) := dk_3 (dk_at dksL_law_64 16 rfl rfl)
theorem dL_law_1753 : decode cL_law 1753 = .ok (.ireturn, 1) := dk_172 (dk_at dksL_law_64 17 rfl rfl)
theorem dL_law_1754 : decode cL_law 1754 = .ok (.goto 1569, 3) := dk_167 6 33 (dk_at dksL_law_64 18 rfl rfl)
theorem dL_law_1757 : decode cL_law 1757 = .ok (.aload_n 1, 1) := dk_43 (dk_at dksL_law_64 21 rfl rfl)
theorem dL_law_1758 : decode cL_law 1758 = .ok (.aload_n 0, 1) := dk_42 (dk_at dksL_law_64 22 rfl rfl)
theorem dL_law_1759 : decode cL_law 1759 = .ok (.iload 5, 2) := dk_21 5 (dk_at dksL_law_65 0 rfl rfl)
theorem dL_law_1761 : decode cL_law 1761 = .ok (.iconst 1, 1) := dk_4 (dk_at dksL_law_65 2 rfl rfl)
theorem dL_law_1762 : decode cL_law 1762 = .ok (.iadd, 1) := dk_96 (dk_at dksL_law_65 3 rfl rfl)
theorem dL_law_1763 : decode cL_law 1763 = .ok (.iaload, 1) := dk_46 (dk_at dksL_law_65 4 rfl rfl)
theorem dL_law_1764 : decode cL_law 1764 = .ok (.aload_n 0, 1) := dk_42 (dk_at dksL_law_65 5 rfl rfl)
theorem dL_law_1765 : decode cL_law 1765 = .ok (.iload 5, 2) := dk_21 5 (dk_at dksL_law_65 6 rfl rfl)
theorem dL_law_1767 : decode cL_law 1767 = .ok (.iconst 2, 1) := dk_5 (dk_at dksL_law_65 8 rfl rfl)
theorem dL_law_1768 : decode cL_law 1768 = .ok (.iadd, 1) := dk_96 (dk_at dksL_law_65 9 rfl rfl)
theorem dL_law_1769 : decode cL_law 1769 = .ok (.iaload, 1) := dk_46 (dk_at dksL_law_65 10 rfl rfl)
theorem dL_law_1770 : decode cL_law 1770 = .ok (.aload_n 0, 1) := dk_42 (dk_at dksL_law_65 11 rfl rfl)
theorem dL_law_1771 : decode cL_law 1771 = .ok (.iload 5, 2) := dk_21 5 (dk_at dksL_law_65 12 rfl rfl)
theorem dL_law_1773 : decode cL_law 1773 = .ok (.iconst 3, 1) := dk_6 (dk_at dksL_law_65 14 rfl rfl)
theorem dL_law_1774 : decode cL_law 1774 = .ok (.iadd, 1) := dk_96 (dk_at dksL_law_65 15 rfl rfl)
theorem dL_law_1775 : decode cL_law 1775 = .ok (.iaload, 1) := dk_46 (dk_at dksL_law_65 16 rfl rfl)
theorem dL_law_1776 : decode cL_law 1776 = .ok (.aload_n 3, 1) := dk_45 (dk_at dksL_law_65 17 rfl rfl)
theorem dL_law_1777 : decode cL_law 1777 = .ok (.invokestatic 273, 3) := dk_184 1 17 (dk_at dksL_law_65 18 rfl rfl)
theorem dL_law_1780 : decode cL_law 1780 = .ok (.istore 6, 2) := dk_54 6 (dk_at dksL_law_65 21 rfl rfl)
theorem dL_law_1782 : decode cL_law 1782 = .ok (.aload_n 2, 1) := dk_44 (dk_at dksL_law_65 23 rfl rfl)
theorem dL_law_1783 : decode cL_law 1783 = .ok (.aload_n 0, 1) := dk_42 (dk_at dksL_law_66 0 rfl rfl)
theorem dL_law_1784 : decode cL_law 1784 = .ok (.iload 5, 2) := dk_21 5 (dk_at dksL_law_66 1 rfl rfl)
theorem dL_law_1786 : decode cL_law 1786 = .ok (.iconst 1, 1) := dk_4 (dk_at dksL_law_66 3 rfl rfl)
theorem dL_law_1787 : decode cL_law 1787 = .ok (.iadd, 1) := dk_96 (dk_at dksL_law_66 4 rfl rfl)
theorem dL_law_1788 : decode cL_law 1788 = .ok (.iaload, 1) := dk_46 (dk_at dksL_law_66 5 rfl rfl)
theorem dL_law_1789 : decode cL_law 1789 = .ok (.aload_n 0, 1) := dk_42 (dk_at dksL_law_66 6 rfl rfl)
theorem dL_law_1790 : decode cL_law 1790 = .ok (.iload 5, 2) := dk_21 5 (dk_at dksL_law_66 7 rfl rfl)
theorem dL_law_1792 : decode cL_law 1792 = .ok (.iconst 2, 1) := dk_5 (dk_at dksL_law_66 9 rfl rfl)
theorem dL_law_1793 : decode cL_law 1793 = .ok (.iadd, 1) := dk_96 (dk_at dksL_law_66 10 rfl rfl)
theorem dL_law_1794 : decode cL_law 1794 = .ok (.iaload, 1) := dk_46 (dk_at dksL_law_66 11 rfl rfl)
theorem dL_law_1795 : decode cL_law 1795 = .ok (.aload_n 0, 1) := dk_42 (dk_at dksL_law_66 12 rfl rfl)
theorem dL_law_1796 : decode cL_law 1796 = .ok (.iload 5, 2) := dk_21 5 (dk_at dksL_law_66 13 rfl rfl)
theorem dL_law_1798 : decode cL_law 1798 = .ok (.iconst 3, 1) := dk_6 (dk_at dksL_law_66 15 rfl rfl)
theorem dL_law_1799 : decode cL_law 1799 = .ok (.iadd, 1) := dk_96 (dk_at dksL_law_66 16 rfl rfl)
theorem dL_law_1800 : decode cL_law 1800 = .ok (.iaload, 1) := dk_46 (dk_at dksL_law_66 17 rfl rfl)
theorem dL_law_1801 : decode cL_law 1801 = .ok (.invokevirtual 275, 3) := dk_182 1 19 (dk_at dksL_law_66 18 rfl rfl)
theorem dL_law_1804 : decode cL_law 1804 = .ok (.istore 7, 2) := dk_54 7 (dk_at dksL_law_66 21 rfl rfl)
theorem dL_law_1806 : decode cL_law 1806 = .ok (.aload_n 2, 1) := dk_44 (dk_at dksL_law_66 23 rfl rfl)
theorem dL_law_1807 : decode cL_law 1807 = .ok (.invokevirtual 185, 3) := dk_182 0 185 (dk_at dksL_law_67 0 rfl rfl)
theorem dL_law_1810 : decode cL_law 1810 = .ok (.iload 6, 2) := dk_21 6 (dk_at dksL_law_67 3 rfl rfl)
theorem dL_law_1812 : decode cL_law 1812 = .ok (.if_icmp .eq 5, 3) := dk_159 0 5 (dk_at dksL_law_67 5 rfl rfl)
theorem dL_law_1815 : decode cL_law 1815 = .ok (.iconst 0, 1) := dk_3 (dk_at dksL_law_67 8 rfl rfl)
theorem dL_law_1816 : decode cL_law 1816 = .ok (.ireturn, 1) := dk_172 (dk_at dksL_law_67 9 rfl rfl)
theorem dL_law_1817 : decode cL_law 1817 = .ok (.iload 6, 2) := dk_21 6 (dk_at dksL_law_67 10 rfl rfl)
theorem dL_law_1819 : decode cL_law 1819 = .ok (.ifCond .ne 15, 3) := dk_154 0 15 (dk_at dksL_law_67 12 rfl rfl)
theorem dL_law_1822 : decode cL_law 1822 = .ok (.aload_n 3, 1) := dk_45 (dk_at dksL_law_67 15 rfl rfl)
theorem dL_law_1823 : decode cL_law 1823 = .ok (.iconst 0, 1) := dk_3 (dk_at dksL_law_67 16 rfl rfl)
theorem dL_law_1824 : decode cL_law 1824 = .ok (.laload, 1) := dk_47 (dk_at dksL_law_67 17 rfl rfl)
theorem dL_law_1825 : decode cL_law 1825 = .ok (.iload 7, 2) := dk_21 7 (dk_at dksL_law_67 18 rfl rfl)
theorem dL_law_1827 : decode cL_law 1827 = .ok (.i2l, 1) := dk_133 (dk_at dksL_law_67 20 rfl rfl)
theorem dL_law_1828 : decode cL_law 1828 = .ok (.lcmp, 1) := dk_148 (dk_at dksL_law_67 21 rfl rfl)
theorem dL_law_1829 : decode cL_law 1829 = .ok (.ifCond .eq 5, 3) := dk_153 0 5 (dk_at dksL_law_68 0 rfl rfl)
theorem dL_law_1832 : decode cL_law 1832 = .ok (.iconst 0, 1) := dk_3 (dk_at dksL_law_68 3 rfl rfl)
theorem dL_law_1833 : decode cL_law 1833 = .ok (.ireturn, 1) := dk_172 (dk_at dksL_law_68 4 rfl rfl)
theorem dL_law_1834 : decode cL_law 1834 = .ok (.goto 1489, 3) := dk_167 5 209 (dk_at dksL_law_68 5 rfl rfl)
theorem dL_law_1837 : decode cL_law 1837 = .ok (.aload_n 1, 1) := dk_43 (dk_at dksL_law_68 8 rfl rfl)
theorem dL_law_1838 : decode cL_law 1838 = .ok (.aload_n 0, 1) := dk_42 (dk_at dksL_law_68 9 rfl rfl)
theorem dL_law_1839 : decode cL_law 1839 = .ok (.iload 5, 2) := dk_21 5 (dk_at dksL_law_68 10 rfl rfl)
theorem dL_law_1841 : decode cL_law 1841 = .ok (.iconst 1, 1) := dk_4 (dk_at dksL_law_68 12 rfl rfl)
theorem dL_law_1842 : decode cL_law 1842 = .ok (.iadd, 1) := dk_96 (dk_at dksL_law_68 13 rfl rfl)
theorem dL_law_1843 : decode cL_law 1843 = .ok (.iaload, 1) := dk_46 (dk_at dksL_law_68 14 rfl rfl)
theorem dL_law_1844 : decode cL_law 1844 = .ok (.aload_n 3, 1) := dk_45 (dk_at dksL_law_68 15 rfl rfl)
theorem dL_law_1845 : decode cL_law 1845 = .ok (.invokestatic 276, 3) := dk_184 1 20 (dk_at dksL_law_68 16 rfl rfl)
theorem dL_law_1848 : decode cL_law 1848 = .ok (.istore 6, 2) := dk_54 6 (dk_at dksL_law_68 19 rfl rfl)
theorem dL_law_1850 : decode cL_law 1850 = .ok (.aload_n 2, 1) := dk_44 (dk_at dksL_law_68 21 rfl rfl)
theorem dL_law_1851 : decode cL_law 1851 = .ok (.aload_n 0, 1) := dk_42 (dk_at dksL_law_68 22 rfl rfl)
theorem dL_law_1852 : decode cL_law 1852 = .ok (.iload 5, 2) := dk_21 5 (dk_at dksL_law_69 0 rfl rfl)
theorem dL_law_1854 : decode cL_law 1854 = .ok (.iconst 1, 1) := dk_4 (dk_at dksL_law_69 2 rfl rfl)
theorem dL_law_1855 : decode cL_law 1855 = .ok (.iadd, 1) := dk_96 (dk_at dksL_law_69 3 rfl rfl)
theorem dL_law_1856 : decode cL_law 1856 = .ok (.iaload, 1) := dk_46 (dk_at dksL_law_69 4 rfl rfl)
theorem dL_law_1857 : decode cL_law 1857 = .ok (.invokevirtual 278, 3) := dk_182 1 22 (dk_at dksL_law_69 5 rfl rfl)
theorem dL_law_1860 : decode cL_law 1860 = .ok (.istore 7, 2) := dk_54 7 (dk_at dksL_law_69 8 rfl rfl)
theorem dL_law_1862 : decode cL_law 1862 = .ok (.aload_n 2, 1) := dk_44 (dk_at dksL_law_69 10 rfl rfl)
theorem dL_law_1863 : decode cL_law 1863 = .ok (.invokevirtual 185, 3) := dk_182 0 185 (dk_at dksL_law_69 11 rfl rfl)
theorem dL_law_1866 : decode cL_law 1866 = .ok (.iload 6, 2) := dk_21 6 (dk_at dksL_law_69 14 rfl rfl)
theorem dL_law_1868 : decode cL_law 1868 = .ok (.if_icmp .eq 5, 3) := dk_159 0 5 (dk_at dksL_law_69 16 rfl rfl)
theorem dL_law_1871 : decode cL_law 1871 = .ok (.iconst 0, 1) := dk_3 (dk_at dksL_law_69 19 rfl rfl)
theorem dL_law_1872 : decode cL_law 1872 = .ok (.ireturn, 1) := dk_172 (dk_at dksL_law_69 20 rfl rfl)
theorem dL_law_1873 : decode cL_law 1873 = .ok (.iload 6, 2) := dk_21 6 (dk_at dksL_law_69 21 rfl rfl)
theorem dL_law_1875 : decode cL_law 1875 = .ok (.ifCond .ne 15, 3) := dk_154 0 15 (dk_at dksL_law_70 0 rfl rfl)
theorem dL_law_1878 : decode cL_law 1878 = .ok (.aload_n 3, 1) := dk_45 (dk_at dksL_law_70 3 rfl rfl)
theorem dL_law_1879 : decode cL_law 1879 = .ok (.iconst 0, 1) := dk_3 (dk_at dksL_law_70 4 rfl rfl)
theorem dL_law_1880 : decode cL_law 1880 = .ok (.laload, 1) := dk_47 (dk_at dksL_law_70 5 rfl rfl)
theorem dL_law_1881 : decode cL_law 1881 = .ok (.iload 7, 2) := dk_21 7 (dk_at dksL_law_70 6 rfl rfl)
theorem dL_law_1883 : decode cL_law 1883 = .ok (.i2l, 1) := dk_133 (dk_at dksL_law_70 8 rfl rfl)
theorem dL_law_1884 : decode cL_law 1884 = .ok (.lcmp, 1) := dk_148 (dk_at dksL_law_70 9 rfl rfl)
theorem dL_law_1885 : decode cL_law 1885 = .ok (.ifCond .eq 5, 3) := dk_153 0 5 (dk_at dksL_law_70 10 rfl rfl)
theorem dL_law_1888 : decode cL_law 1888 = .ok (.iconst 0, 1) := dk_3 (dk_at dksL_law_70 13 rfl rfl)
theorem dL_law_1889 : decode cL_law 1889 = .ok (.ireturn, 1) := dk_172 (dk_at dksL_law_70 14 rfl rfl)
theorem dL_law_1890 : decode cL_law 1890 = .ok (.goto 1433, 3) := dk_167 5 153 (dk_at dksL_law_70 15 rfl rfl)
theorem dL_law_1893 : decode cL_law 1893 = .ok (.aload_n 1, 1) := dk_43 (dk_at dksL_law_70 18 rfl rfl)
theorem dL_law_1894 : decode cL_law 1894 = .ok (.aload_n 0, 1) := dk_42 (dk_at dksL_law_70 19 rfl rfl)
theorem dL_law_1895 : decode cL_law 1895 = .ok (.iload 5, 2) := dk_21 5 (dk_at dksL_law_70 20 rfl rfl)
theorem dL_law_1897 : decode cL_law 1897 = .ok (.iconst 1, 1) := dk_4 (dk_at dksL_law_70 22 rfl rfl)
theorem dL_law_1898 : decode cL_law 1898 = .ok (.iadd, 1) := dk_96 (dk_at dksL_law_70 23 rfl rfl)
theorem dL_law_1899 : decode cL_law 1899 = .ok (.iaload, 1) := dk_46 (dk_at dksL_law_71 0 rfl rfl)
theorem dL_law_1900 : decode cL_law 1900 = .ok (.aload_n 0, 1) := dk_42 (dk_at dksL_law_71 1 rfl rfl)
theorem dL_law_1901 : decode cL_law 1901 = .ok (.iload 5, 2) := dk_21 5 (dk_at dksL_law_71 2 rfl rfl)
theorem dL_law_1903 : decode cL_law 1903 = .ok (.iconst 2, 1) := dk_5 (dk_at dksL_law_71 4 rfl rfl)
theorem dL_law_1904 : decode cL_law 1904 = .ok (.iadd, 1) := dk_96 (dk_at dksL_law_71 5 rfl rfl)
theorem dL_law_1905 : decode cL_law 1905 = .ok (.iaload, 1) := dk_46 (dk_at dksL_law_71 6 rfl rfl)
theorem dL_law_1906 : decode cL_law 1906 = .ok (.aload_n 3, 1) := dk_45 (dk_at dksL_law_71 7 rfl rfl)
theorem dL_law_1907 : decode cL_law 1907 = .ok (.invokestatic 279, 3) := dk_184 1 23 (dk_at dksL_law_71 8 rfl rfl)
theorem dL_law_1910 : decode cL_law 1910 = .ok (.istore 6, 2) := dk_54 6 (dk_at dksL_law_71 11 rfl rfl)
theorem dL_law_1912 : decode cL_law 1912 = .ok (.aload_n 2, 1) := dk_44 (dk_at dksL_law_71 13 rfl rfl)
theorem dL_law_1913 : decode cL_law 1913 = .ok (.aload_n 0, 1) := dk_42 (dk_at dksL_law_71 14 rfl rfl)
theorem dL_law_1914 : decode cL_law 1914 = .ok (.iload 5, 2) := dk_21 5 (dk_at dksL_law_71 15 rfl rfl)
theorem dL_law_1916 : decode cL_law 1916 = .ok (.iconst 1, 1) := dk_4 (dk_at dksL_law_71 17 rfl rfl)
theorem dL_law_1917 : decode cL_law 1917 = .ok (.iadd, 1) := dk_96 (dk_at dksL_law_71 18 rfl rfl)
theorem dL_law_1918 : decode cL_law 1918 = .ok (.iaload, 1) := dk_46 (dk_at dksL_law_71 19 rfl rfl)
theorem dL_law_1919 : decode cL_law 1919 = .ok (.aload_n 0, 1) := dk_42 (dk_at dksL_law_71 20 rfl rfl)
theorem dL_law_1920 : decode cL_law 1920 = .ok (.iload 5, 2) := dk_21 5 (dk_at dksL_law_71 21 rfl rfl)
theorem dL_law_1922 : decode cL_law 1922 = .ok (.iconst 2, 1) := dk_5 (dk_at dksL_law_71 23 rfl rfl)
theorem dL_law_1923 : decode cL_law 1923 = .ok (.iadd, 1) := dk_96 (dk_at dksL_law_72 0 rfl rfl)
theorem dL_law_1924 : decode cL_law 1924 = .ok (.iaload, 1) := dk_46 (dk_at dksL_law_72 1 rfl rfl)
theorem dL_law_1925 : decode cL_law 1925 = .ok (.invokevirtual 281, 3) := dk_182 1 25 (dk_at dksL_law_72 2 rfl rfl)
theorem dL_law_1928 : decode cL_law 1928 = .ok (.istore 7, 2) := dk_54 7 (dk_at dksL_law_72 5 rfl rfl)
theorem dL_law_1930 : decode cL_law 1930 = .ok (.aload_n 2, 1) := dk_44 (dk_at dksL_law_72 7 rfl rfl)
theorem dL_law_1931 : decode cL_law 1931 = .ok (.invokevirtual 185, 3) := dk_182 0 185 (dk_at dksL_law_72 8 rfl rfl)
theorem dL_law_1934 : decode cL_law 1934 = .ok (.iload 6, 2) := dk_21 6 (dk_at dksL_law_72 11 rfl rfl)
theorem dL_law_1936 : decode cL_law 1936 = .ok (.if_icmp .eq 5, 3) := dk_159 0 5 (dk_at dksL_law_72 13 rfl rfl)
theorem dL_law_1939 : decode cL_law 1939 = .ok (.iconst 0, 1) := dk_3 (dk_at dksL_law_72 16 rfl rfl)
theorem dL_law_1940 : decode cL_law 1940 = .ok (.ireturn, 1) := dk_172 (dk_at dksL_law_72 17 rfl rfl)
theorem dL_law_1941 : decode cL_law 1941 = .ok (.iload 6, 2) := dk_21 6 (dk_at dksL_law_72 18 rfl rfl)
theorem dL_law_1943 : decode cL_law 1943 = .ok (.ifCond .ne 15, 3) := dk_154 0 15 (dk_at dksL_law_72 20 rfl rfl)
theorem dL_law_1946 : decode cL_law 1946 = .ok (.aload_n 3, 1) := dk_45 (dk_at dksL_law_72 23 rfl rfl)
theorem dL_law_1947 : decode cL_law 1947 = .ok (.iconst 0, 1) := dk_3 (dk_at dksL_law_73 0 rfl rfl)
theorem dL_law_1948 : decode cL_law 1948 = .ok (.laload, 1) := dk_47 (dk_at dksL_law_73 1 rfl rfl)
theorem dL_law_1949 : decode cL_law 1949 = .ok (.iload 7, 2) := dk_21 7 (dk_at dksL_law_73 2 rfl rfl)
theorem dL_law_1951 : decode cL_law 1951 = .ok (.i2l, 1) := dk_133 (dk_at dksL_law_73 4 rfl rfl)
theorem dL_law_1952 : decode cL_law 1952 = .ok (.lcmp, 1) := dk_148 (dk_at dksL_law_73 5 rfl rfl)
theorem dL_law_1953 : decode cL_law 1953 = .ok (.ifCond .eq 5, 3) := dk_153 0 5 (dk_at dksL_law_73 6 rfl rfl)
theorem dL_law_1956 : decode cL_law 1956 = .ok (.iconst 0, 1) := dk_3 (dk_at dksL_law_73 9 rfl rfl)
theorem dL_law_1957 : decode cL_law 1957 = .ok (.ireturn, 1) := dk_172 (dk_at dksL_law_73 10 rfl rfl)
theorem dL_law_1958 : decode cL_law 1958 = .ok (.goto 1365, 3) := dk_167 5 85 (dk_at dksL_law_73 11 rfl rfl)
theorem dL_law_1961 : decode cL_law 1961 = .ok (.aload_n 1, 1) := dk_43 (dk_at dksL_law_73 14 rfl rfl)
theorem dL_law_1962 : decode cL_law 1962 = .ok (.aload_n 0, 1) := dk_42 (dk_at dksL_law_73 15 rfl rfl)
theorem dL_law_1963 : decode cL_law 1963 = .ok (.iload 5, 2) := dk_21 5 (dk_at dksL_law_73 16 rfl rfl)
theorem dL_law_1965 : decode cL_law 1965 = .ok (.iconst 1, 1) := dk_4 (dk_at dksL_law_73 18 rfl rfl)
theorem dL_law_1966 : decode cL_law 1966 = .ok (.iadd, 1) := dk_96 (dk_at dksL_law_73 19 rfl rfl)
theorem dL_law_1967 : decode cL_law 1967 = .ok (.iaload, 1) := dk_46 (dk_at dksL_law_73 20 rfl rfl)
theorem dL_law_1968 : decode cL_law 1968 = .ok (.aload_n 3, 1) := dk_45 (dk_at dksL_law_73 21 rfl rfl)
theorem dL_law_1969 : decode cL_law 1969 = .ok (.invokestatic 282, 3) := dk_184 1 26 (dk_at dksL_law_74 0 rfl rfl)
theorem dL_law_1972 : decode cL_law 1972 = .ok (.istore 6, 2) := dk_54 6 (dk_at dksL_law_74 3 rfl rfl)
theorem dL_law_1974 : decode cL_law 1974 = .ok (.aload_n 2, 1) := dk_44 (dk_at dksL_law_74 5 rfl rfl)
theorem dL_law_1975 : decode cL_law 1975 = .ok (.aload_n 0, 1) := dk_42 (dk_at dksL_law_74 6 rfl rfl)
theorem dL_law_1976 : decode cL_law 1976 = .ok (.iload 5, 2) := dk_21 5 (dk_at dksL_law_74 7 rfl rfl)
theorem dL_law_1978 : decode cL_law 1978 = .ok (.iconst 1, 1) := dk_4 (dk_at dksL_law_74 9 rfl rfl)
theorem dL_law_1979 : decode cL_law 1979 = .ok (.iadd, 1) := dk_96 (dk_at dksL_law_74 10 rfl rfl)
theorem dL_law_1980 : decode cL_law 1980 = .ok (.iaload, 1) := dk_46 (dk_at dksL_law_74 11 rfl rfl)
theorem dL_law_1981 : decode cL_law 1981 = .ok (.invokevirtual 284, 3) := dk_182 1 28 (dk_at dksL_law_74 12 rfl rfl)
theorem dL_law_1984 : decode cL_law 1984 = .ok (.istore 7, 2) := dk_54 7 (dk_at dksL_law_74 15 rfl rfl)
theorem dL_law_1986 : decode cL_law 1986 = .ok (.aload_n 2, 1) := dk_44 (dk_at dksL_law_74 17 rfl rfl)
theorem dL_law_1987 : decode cL_law 1987 = .ok (.invokevirtual 185, 3) := dk_182 0 185 (dk_at dksL_law_74 18 rfl rfl)
theorem dL_law_1990 : decode cL_law 1990 = .ok (.iload 6, 2) := dk_21 6 (dk_at dksL_law_74 21 rfl rfl)
theorem dL_law_1992 : decode cL_law 1992 = .ok (.if_icmp .eq 5, 3) := dk_159 0 5 (dk_at dksL_law_75 0 rfl rfl)
theorem dL_law_1995 : decode cL_law 1995 = .ok (.iconst 0, 1) := dk_3 (dk_at dksL_law_75 3 rfl rfl)
theorem dL_law_1996 : decode cL_law 1996 = .ok (.ireturn, 1) := dk_172 (dk_at dksL_law_75 4 rfl rfl)
theorem dL_law_1997 : decode cL_law 1997 = .ok (.iload 6, 2) := dk_21 6 (dk_at dksL_law_75 5 rfl rfl)
theorem dL_law_1999 : decode cL_law 1999 = .ok (.ifCond .ne 22, 3) := dk_154 0 22 (dk_at dksL_law_75 7 rfl rfl)
theorem dL_law_2002 : decode cL_law 2002 = .ok (.aload_n 3, 1) := dk_45 (dk_at dksL_law_75 10 rfl rfl)
theorem dL_law_2003 : decode cL_law 2003 = .ok (.iconst 0, 1) := dk_3 (dk_at dksL_law_75 11 rfl rfl)
theorem dL_law_2004 : decode cL_law 2004 = .ok (.laload, 1) := dk_47 (dk_at dksL_law_75 12 rfl rfl)
theorem dL_law_2005 : decode cL_law 2005 = .ok (.iload 7, 2) := dk_21 7 (dk_at dksL_law_75 13 rfl rfl)
theorem dL_law_2007 : decode cL_law 2007 = .ok (.ifCond .eq 7, 3) := dk_153 0 7 (dk_at dksL_law_75 15 rfl rfl)
theorem dL_law_2010 : decode cL_law 2010 = .ok (.lconst 1, 1) := dk_10 (dk_at dksL_law_75 18 rfl rfl)
theorem dL_law_2011 : decode cL_law 2011 = .ok (.goto 4, 3) := dk_167 0 4 (dk_at dksL_law_75 19 rfl rfl)
theorem dL_law_2014 : decode cL_law 2014 = .ok (.lconst 0, 1) := dk_9 (dk_at dksL_law_75 22 rfl rfl)
theorem dL_law_2015 : decode cL_law 2015 = .ok (.lcmp, 1) := dk_148 (dk_at dksL_law_75 23 rfl rfl)
theorem dL_law_2016 : decode cL_law 2016 = .ok (.ifCond .eq 5, 3) := dk_153 0 5 (dk_at dksL_law_76 0 rfl rfl)
theorem dL_law_2019 : decode cL_law 2019 = .ok (.iconst 0, 1) := dk_3 (dk_at dksL_law_76 3 rfl rfl)
theorem dL_law_2020 : decode cL_law 2020 = .ok (.ireturn, 1) := dk_172 (dk_at dksL_law_76 4 rfl rfl)
theorem dL_law_2021 : decode cL_law 2021 = .ok (.goto 1302, 3) := dk_167 5 22 (dk_at dksL_law_76 5 rfl rfl)
theorem dL_law_2024 : decode cL_law 2024 = .ok (.aload_n 1, 1) := dk_43 (dk_at dksL_law_76 8 rfl rfl)
theorem dL_law_2025 : decode cL_law 2025 = .ok (.aload_n 0, 1) := dk_42 (dk_at dksL_law_76 9 rfl rfl)
theorem dL_law_2026 : decode cL_law 2026 = .ok (.iload 5, 2) := dk_21 5 (dk_at dksL_law_76 10 rfl rfl)
theorem dL_law_2028 : decode cL_law 2028 = .ok (.iconst 1, 1) := dk_4 (dk_at dksL_law_76 12 rfl rfl)
theorem dL_law_2029 : decode cL_law 2029 = .ok (.iadd, 1) := dk_96 (dk_at dksL_law_76 13 rfl rfl)
theorem dL_law_2030 : decode cL_law 2030 = .ok (.iaload, 1) := dk_46 (dk_at dksL_law_76 14 rfl rfl)
theorem dL_law_2031 : decode cL_law 2031 = .ok (.aload_n 3, 1) := dk_45 (dk_at dksL_law_76 15 rfl rfl)
theorem dL_law_2032 : decode cL_law 2032 = .ok (.invokestatic 285, 3) := dk_184 1 29 (dk_at dksL_law_76 16 rfl rfl)
theorem dL_law_2035 : decode cL_law 2035 = .ok (.istore 6, 2) := dk_54 6 (dk_at dksL_law_76 19 rfl rfl)
theorem dL_law_2037 : decode cL_law 2037 = .ok (.aload_n 2, 1) := dk_44 (dk_at dksL_law_76 21 rfl rfl)
theorem dL_law_2038 : decode cL_law 2038 = .ok (.aload_n 0, 1) := dk_42 (dk_at dksL_law_76 22 rfl rfl)
theorem dL_law_2039 : decode cL_law 2039 = .ok (.iload 5, 2) := dk_21 5 (dk_at dksL_law_77 0 rfl rfl)
theorem dL_law_2041 : decode cL_law 2041 = .ok (.iconst 1, 1) := dk_4 (dk_at dksL_law_77 2 rfl rfl)
theorem dL_law_2042 : decode cL_law 2042 = .ok (.iadd, 1) := dk_96 (dk_at dksL_law_77 3 rfl rfl)
theorem dL_law_2043 : decode cL_law 2043 = .ok (.iaload, 1) := dk_46 (dk_at dksL_law_77 4 rfl rfl)
theorem dL_law_2044 : decode cL_law 2044 = .ok (.invokevirtual 287, 3) := dk_182 1 31 (dk_at dksL_law_77 5 rfl rfl)
theorem dL_law_2047 : decode cL_law 2047 = .ok (.istore 7, 2) := dk_54 7 (dk_at dksL_law_77 8 rfl rfl)
theorem dL_law_2049 : decode cL_law 2049 = .ok (.aload_n 2, 1) := dk_44 (dk_at dksL_law_77 10 rfl rfl)
theorem dL_law_2050 : decode cL_law 2050 = .ok (.invokevirtual 185, 3) := dk_182 0 185 (dk_at dksL_law_77 11 rfl rfl)
theorem dL_law_2053 : decode cL_law 2053 = .ok (.iload 6, 2) := dk_21 6 (dk_at dksL_law_77 14 rfl rfl)
theorem dL_law_2055 : decode cL_law 2055 = .ok (.if_icmp .eq 5, 3) := dk_159 0 5 (dk_at dksL_law_77 16 rfl rfl)
theorem dL_law_2058 : decode cL_law 2058 = .ok (.iconst 0, 1) := dk_3 (dk_at dksL_law_77 19 rfl rfl)
theorem dL_law_2059 : decode cL_law 2059 = .ok (.ireturn, 1) := dk_172 (dk_at dksL_law_77 20 rfl rfl)
theorem dL_law_2060 : decode cL_law 2060 = .ok (.iload 6, 2) := dk_21 6 (dk_at dksL_law_77 21 rfl rfl)
theorem dL_law_2062 : decode cL_law 2062 = .ok (.ifCond .ne 15, 3) := dk_154 0 15 (dk_at dksL_law_78 0 rfl rfl)
theorem dL_law_2065 : decode cL_law 2065 = .ok (.aload_n 3, 1) := dk_45 (dk_at dksL_law_78 3 rfl rfl)
theorem dL_law_2066 : decode cL_law 2066 = .ok (.iconst 0, 1) := dk_3 (dk_at dksL_law_78 4 rfl rfl)
theorem dL_law_2067 : decode cL_law 2067 = .ok (.laload, 1) := dk_47 (dk_at dksL_law_78 5 rfl rfl)
theorem dL_law_2068 : decode cL_law 2068 = .ok (.iload 7, 2) := dk_21 7 (dk_at dksL_law_78 6 rfl rfl)
theorem dL_law_2070 : decode cL_law 2070 = .ok (.i2l, 1) := dk_133 (dk_at dksL_law_78 8 rfl rfl)
theorem dL_law_2071 : decode cL_law 2071 = .ok (.lcmp, 1) := dk_148 (dk_at dksL_law_78 9 rfl rfl)
theorem dL_law_2072 : decode cL_law 2072 = .ok (.ifCond .eq 5, 3) := dk_153 0 5 (dk_at dksL_law_78 10 rfl rfl)
theorem dL_law_2075 : decode cL_law 2075 = .ok (.iconst 0, 1) := dk_3 (dk_at dksL_law_78 13 rfl rfl)
theorem dL_law_2076 : decode cL_law 2076 = .ok (.ireturn, 1) := dk_172 (dk_at dksL_law_78 14 rfl rfl)
theorem dL_law_2077 : decode cL_law 2077 = .ok (.goto 1246, 3) := dk_167 4 222 (dk_at dksL_law_78 15 rfl rfl)
theorem dL_law_2080 : decode cL_law 2080 = .ok (.aload_n 1, 1) := dk_43 (dk_at dksL_law_78 18 rfl rfl)
theorem dL_law_2081 : decode cL_law 2081 = .ok (.aload_n 0, 1) := dk_42 (dk_at dksL_law_78 19 rfl rfl)
theorem dL_law_2082 : decode cL_law 2082 = .ok (.iload 5, 2) := dk_21 5 (dk_at dksL_law_78 20 rfl rfl)
theorem dL_law_2084 : decode cL_law 2084 = .ok (.iconst 1, 1) := dk_4 (dk_at dksL_law_78 22 rfl rfl)
theorem dL_law_2085 : decode cL_law 2085 = .ok (.iadd, 1) := dk_96 (dk_at dksL_law_78 23 rfl rfl)
theorem dL_law_2086 : decode cL_law 2086 = .ok (.iaload, 1) := dk_46 (dk_at dksL_law_79 0 rfl rfl)
theorem dL_law_2087 : decode cL_law 2087 = .ok (.aload_n 3, 1) := dk_45 (dk_at dksL_law_79 1 rfl rfl)
theorem dL_law_2088 : decode cL_law 2088 = .ok (.invokestatic 288, 3) := dk_184 1 32 (dk_at dksL_law_79 2 rfl rfl)
theorem dL_law_2091 : decode cL_law 2091 = .ok (.istore 6, 2) := dk_54 6 (dk_at dksL_law_79 5 rfl rfl)
theorem dL_law_2093 : decode cL_law 2093 = .ok (.aload_n 2, 1) := dk_44 (dk_at dksL_law_79 7 rfl rfl)
theorem dL_law_2094 : decode cL_law 2094 = .ok (.aload_n 0, 1) := dk_42 (dk_at dksL_law_79 8 rfl rfl)
theorem dL_law_2095 : decode cL_law 2095 = .ok (.iload 5, 2) := dk_21 5 (dk_at dksL_law_79 9 rfl rfl)
theorem dL_law_2097 : decode cL_law 2097 = .ok (.iconst 1, 1) := dk_4 (dk_at dksL_law_79 11 rfl rfl)
theorem dL_law_2098 : decode cL_law 2098 = .ok (.iadd, 1) := dk_96 (dk_at dksL_law_79 12 rfl rfl)
theorem dL_law_2099 : decode cL_law 2099 = .ok (.iaload, 1) := dk_46 (dk_at dksL_law_79 13 rfl rfl)
theorem dL_law_2100 : decode cL_law 2100 = .ok (.invokevirtual 290, 3) := dk_182 1 34 (dk_at dksL_law_79 14 rfl rfl)
theorem dL_law_2103 : decode cL_law 2103 = .ok (.istore 7, 2) := dk_54 7 (dk_at dksL_law_79 17 rfl rfl)
theorem dL_law_2105 : decode cL_law 2105 = .ok (.aload_n 2, 1) := dk_44 (dk_at dksL_law_79 19 rfl rfl)
theorem dL_law_2106 : decode cL_law 2106 = .ok (.invokevirtual 185, 3) := dk_182 0 185 (dk_at dksL_law_79 20 rfl rfl)
theorem dL_law_2109 : decode cL_law 2109 = .ok (.iload 6, 2) := dk_21 6 (dk_at dksL_law_80 0 rfl rfl)
theorem dL_law_2111 : decode cL_law 2111 = .ok (.if_icmp .eq 5, 3) := dk_159 0 5 (dk_at dksL_law_80 2 rfl rfl)
theorem dL_law_2114 : decode cL_law 2114 = .ok (.iconst 0, 1) := dk_3 (dk_at dksL_law_80 5 rfl rfl)
theorem dL_law_2115 : decode cL_law 2115 = .ok (.ireturn, 1) := dk_172 (dk_at dksL_law_80 6 rfl rfl)
theorem dL_law_2116 : decode cL_law 2116 = .ok (.iload 6, 2) := dk_21 6 (dk_at dksL_law_80 7 rfl rfl)
theorem dL_law_2118 : decode cL_law 2118 = .ok (.ifCond .ne 15, 3) := dk_154 0 15 (dk_at dksL_law_80 9 rfl rfl)
theorem dL_law_2121 : decode cL_law 2121 = .ok (.aload_n 3, 1) := dk_45 (dk_at dksL_law_80 12 rfl rfl)
theorem dL_law_2122 : decode cL_law 2122 = .ok (.iconst 0, 1) := dk_3 (dk_at dksL_law_80 13 rfl rfl)
theorem dL_law_2123 : decode cL_law 2123 = .ok (.laload, 1) := dk_47 (dk_at dksL_law_80 14 rfl rfl)
theorem dL_law_2124 : decode cL_law 2124 = .ok (.iload 7, 2) := dk_21 7 (dk_at dksL_law_80 15 rfl rfl)
theorem dL_law_2126 : decode cL_law 2126 = .ok (.i2l, 1) := dk_133 (dk_at dksL_law_80 17 rfl rfl)
theorem dL_law_2127 : decode cL_law 2127 = .ok (.lcmp, 1) := dk_148 (dk_at dksL_law_80 18 rfl rfl)
theorem dL_law_2128 : decode cL_law 2128 = .ok (.ifCond .eq 5, 3) := dk_153 0 5 (dk_at dksL_law_80 19 rfl rfl)
theorem dL_law_2131 : decode cL_law 2131 = .ok (.iconst 0, 1) := dk_3 (dk_at dksL_law_80 22 rfl rfl)
theorem dL_law_2132 : decode cL_law 2132 = .ok (.ireturn, 1) := dk_172 (dk_at dksL_law_80 23 rfl rfl)
theorem dL_law_2133 : decode cL_law 2133 = .ok (.goto 1190, 3) := dk_167 4 166 (dk_at dksL_law_81 0 rfl rfl)
theorem dL_law_2136 : decode cL_law 2136 = .ok (.aload_n 1, 1) := dk_43 (dk_at dksL_law_81 3 rfl rfl)
theorem dL_law_2137 : decode cL_law 2137 = .ok (.aload_n 0, 1) := dk_42 (dk_at dksL_law_81 4 rfl rfl)
theorem dL_law_2138 : decode cL_law 2138 = .ok (.iload 5, 2) := dk_21 5 (dk_at dksL_law_81 5 rfl rfl)
theorem dL_law_2140 : decode cL_law 2140 = .ok (.iconst 1, 1) := dk_4 (dk_at dksL_law_81 7 rfl rfl)
theorem dL_law_2141 : decode cL_law 2141 = .ok (.iadd, 1) := dk_96 (dk_at dksL_law_81 8 rfl rfl)
theorem dL_law_2142 : decode cL_law 2142 = .ok (.iaload, 1) := dk_46 (dk_at dksL_law_81 9 rfl rfl)
theorem dL_law_2143 : decode cL_law 2143 = .ok (.aload_n 3, 1) := dk_45 (dk_at dksL_law_81 10 rfl rfl)
theorem dL_law_2144 : decode cL_law 2144 = .ok (.invokestatic 291, 3) := dk_184 1 35 (dk_at dksL_law_81 11 rfl rfl)
theorem dL_law_2147 : decode cL_law 2147 = .ok (.istore 6, 2) := dk_54 6 (dk_at dksL_law_81 14 rfl rfl)
theorem dL_law_2149 : decode cL_law 2149 = .ok (.aload_n 2, 1) := dk_44 (dk_at dksL_law_81 16 rfl rfl)
theorem dL_law_2150 : decode cL_law 2150 = .ok (.aload_n 0, 1) := dk_42 (dk_at dksL_law_81 17 rfl rfl)
theorem dL_law_2151 : decode cL_law 2151 = .ok (.iload 5, 2) := dk_21 5 (dk_at dksL_law_81 18 rfl rfl)
theorem dL_law_2153 : decode cL_law 2153 = .ok (.iconst 1, 1) := dk_4 (dk_at dksL_law_81 20 rfl rfl)
theorem dL_law_2154 : decode cL_law 2154 = .ok (.iadd, 1) := dk_96 (dk_at dksL_law_81 21 rfl rfl)
theorem dL_law_2155 : decode cL_law 2155 = .ok (.iaload, 1) := dk_46 (dk_at dksL_law_81 22 rfl rfl)
theorem dL_law_2156 : decode cL_law 2156 = .ok (.invokevirtual 293, 3) := dk_182 1 37 (dk_at dksL_law_82 0 rfl rfl)
theorem dL_law_2159 : decode cL_law 2159 = .ok (.istore 7, 2) := dk_54 7 (dk_at dksL_law_82 3 rfl rfl)
theorem dL_law_2161 : decode cL_law 2161 = .ok (.aload_n 2, 1) := dk_44 (dk_at dksL_law_82 5 rfl rfl)
theorem dL_law_2162 : decode cL_law 2162 = .ok (.invokevirtual 185, 3) := dk_182 0 185 (dk_at dksL_law_82 6 rfl rfl)
theorem dL_law_2165 : decode cL_law 2165 = .ok (.iload 6, 2) := dk_21 6 (dk_at dksL_law_82 9 rfl rfl)
theorem dL_law_2167 : decode cL_law 2167 = .ok (.if_icmp .eq 5, 3) := dk_159 0 5 (dk_at dksL_law_82 11 rfl rfl)
theorem dL_law_2170 : decode cL_law 2170 = .ok (.iconst 0, 1) := dk_3 (dk_at dksL_law_82 14 rfl rfl)
theorem dL_law_2171 : decode cL_law 2171 = .ok (.ireturn, 1) := dk_172 (dk_at dksL_law_82 15 rfl rfl)
theorem dL_law_2172 : decode cL_law 2172 = .ok (.iload 6, 2) := dk_21 6 (dk_at dksL_law_82 16 rfl rfl)
theorem dL_law_2174 : decode cL_law 2174 = .ok (.ifCond .ne 15, 3) := dk_154 0 15 (dk_at dksL_law_82 18 rfl rfl)
theorem dL_law_2177 : decode cL_law 2177 = .ok (.aload_n 3, 1) := dk_45 (dk_at dksL_law_82 21 rfl rfl)
theorem dL_law_2178 : decode cL_law 2178 = .ok (.iconst 0, 1) := dk_3 (dk_at dksL_law_82 22 rfl rfl)
theorem dL_law_2179 : decode cL_law 2179 = .ok (.laload, 1) := dk_47 (dk_at dksL_law_82 23 rfl rfl)
theorem dL_law_2180 : decode cL_law 2180 = .ok (.iload 7, 2) := dk_21 7 (dk_at dksL_law_83 0 rfl rfl)
theorem dL_law_2182 : decode cL_law 2182 = .ok (.i2l, 1) := dk_133 (dk_at dksL_law_83 2 rfl rfl)
theorem dL_law_2183 : decode cL_law 2183 = .ok (.lcmp, 1) := dk_148 (dk_at dksL_law_83 3 rfl rfl)
theorem dL_law_2184 : decode cL_law 2184 = .ok (.ifCond .eq 5, 3) := dk_153 0 5 (dk_at dksL_law_83 4 rfl rfl)
theorem dL_law_2187 : decode cL_law 2187 = .ok (.iconst 0, 1) := dk_3 (dk_at dksL_law_83 7 rfl rfl)
theorem dL_law_2188 : decode cL_law 2188 = .ok (.ireturn, 1) := dk_172 (dk_at dksL_law_83 8 rfl rfl)
theorem dL_law_2189 : decode cL_law 2189 = .ok (.goto 1134, 3) := dk_167 4 110 (dk_at dksL_law_83 9 rfl rfl)
theorem dL_law_2192 : decode cL_law 2192 = .ok (.aload_n 1, 1) := dk_43 (dk_at dksL_law_83 12 rfl rfl)
theorem dL_law_2193 : decode cL_law 2193 = .ok (.aload_n 0, 1) := dk_42 (dk_at dksL_law_83 13 rfl rfl)
theorem dL_law_2194 : decode cL_law 2194 = .ok (.iload 5, 2) := dk_21 5 (dk_at dksL_law_83 14 rfl rfl)
theorem dL_law_2196 : decode cL_law 2196 = .ok (.iconst 1, 1) := dk_4 (dk_at dksL_law_83 16 rfl rfl)
theorem dL_law_2197 : decode cL_law 2197 = .ok (.iadd, 1) := dk_96 (dk_at dksL_law_83 17 rfl rfl)
theorem dL_law_2198 : decode cL_law 2198 = .ok (.iaload, 1) := dk_46 (dk_at dksL_law_83 18 rfl rfl)
theorem dL_law_2199 : decode cL_law 2199 = .ok (.aload_n 3, 1) := dk_45 (dk_at dksL_law_83 19 rfl rfl)
theorem dL_law_2200 : decode cL_law 2200 = .ok (.invokestatic 294, 3) := dk_184 1 38 (dk_at dksL_law_83 20 rfl rfl)
theorem dL_law_2203 : decode cL_law 2203 = .ok (.istore 6, 2) := dk_54 6 (dk_at dksL_law_84 0 rfl rfl)
theorem dL_law_2205 : decode cL_law 2205 = .ok (.aload_n 2, 1) := dk_44 (dk_at dksL_law_84 2 rfl rfl)
theorem dL_law_2206 : decode cL_law 2206 = .ok (.aload_n 0, 1) := dk_42 (dk_at dksL_law_84 3 rfl rfl)
theorem dL_law_2207 : decode cL_law 2207 = .ok (.iload 5, 2) := dk_21 5 (dk_at dksL_law_84 4 rfl rfl)
theorem dL_law_2209 : decode cL_law 2209 = .ok (.iconst 1, 1) := dk_4 (dk_at dksL_law_84 6 rfl rfl)
theorem dL_law_2210 : decode cL_law 2210 = .ok (.iadd, 1) := dk_96 (dk_at dksL_law_84 7 rfl rfl)
theorem dL_law_2211 : decode cL_law 2211 = .ok (.iaload, 1) := dk_46 (dk_at dksL_law_84 8 rfl rfl)
theorem dL_law_2212 : decode cL_law 2212 = .ok (.invokevirtual 296, 3) := dk_182 1 40 (dk_at dksL_law_84 9 rfl rfl)
theorem dL_law_2215 : decode cL_law 2215 = .ok (.istore 7, 2) := dk_54 7 (dk_at dksL_law_84 12 rfl rfl)
theorem dL_law_2217 : decode cL_law 2217 = .ok (.aload_n 2, 1) := dk_44 (dk_at dksL_law_84 14 rfl rfl)
theorem dL_law_2218 : decode cL_law 2218 = .ok (.invokevirtual 185, 3) := dk_182 0 185 (dk_at dksL_law_84 15 rfl rfl)
theorem dL_law_2221 : decode cL_law 2221 = .ok (.iload 6, 2) := dk_21 6 (dk_at dksL_law_84 18 rfl rfl)
theorem dL_law_2223 : decode cL_law 2223 = .ok (.if_icmp .eq 5, 3) := dk_159 0 5 (dk_at dksL_law_84 20 rfl rfl)
theorem dL_law_2226 : decode cL_law 2226 = .ok (.iconst 0, 1) := dk_3 (dk_at dksL_law_84 23 rfl rfl)
theorem dL_law_2227 : decode cL_law 2227 = .ok (.ireturn, 1) := dk_172 (dk_at dksL_law_85 0 rfl rfl)
theorem dL_law_2228 : decode cL_law 2228 = .ok (.iload 6, 2) := dk_21 6 (dk_at dksL_law_85 1 rfl rfl)
theorem dL_law_2230 : decode cL_law 2230 = .ok (.ifCond .ne 15, 3) := dk_154 0 15 (dk_at dksL_law_85 3 rfl rfl)
theorem dL_law_2233 : decode cL_law 2233 = .ok (.aload_n 3, 1) := dk_45 (dk_at dksL_law_85 6 rfl rfl)
theorem dL_law_2234 : decode cL_law 2234 = .ok (.iconst 0, 1) := dk_3 (dk_at dksL_law_85 7 rfl rfl)
theorem dL_law_2235 : decode cL_law 2235 = .ok (.laload, 1) := dk_47 (dk_at dksL_law_85 8 rfl rfl)
theorem dL_law_2236 : decode cL_law 2236 = .ok (.iload 7, 2) := dk_21 7 (dk_at dksL_law_85 9 rfl rfl)
theorem dL_law_2238 : decode cL_law 2238 = .ok (.i2l, 1) := dk_133 (dk_at dksL_law_85 11 rfl rfl)
theorem dL_law_2239 : decode cL_law 2239 = .ok (.lcmp, 1) := dk_148 (dk_at dksL_law_85 12 rfl rfl)
theorem dL_law_2240 : decode cL_law 2240 = .ok (.ifCond .eq 5, 3) := dk_153 0 5 (dk_at dksL_law_85 13 rfl rfl)
theorem dL_law_2243 : decode cL_law 2243 = .ok (.iconst 0, 1) := dk_3 (dk_at dksL_law_85 16 rfl rfl)
theorem dL_law_2244 : decode cL_law 2244 = .ok (.ireturn, 1) := dk_172 (dk_at dksL_law_85 17 rfl rfl)
theorem dL_law_2245 : decode cL_law 2245 = .ok (.goto 1078, 3) := dk_167 4 54 (dk_at dksL_law_85 18 rfl rfl)
theorem dL_law_2248 : decode cL_law 2248 = .ok (.aload_n 1, 1) := dk_43 (dk_at dksL_law_85 21 rfl rfl)
theorem dL_law_2249 : decode cL_law 2249 = .ok (.aload_n 0, 1) := dk_42 (dk_at dksL_law_85 22 rfl rfl)
theorem dL_law_2250 : decode cL_law 2250 = .ok (.iload 5, 2) := dk_21 5 (dk_at dksL_law_86 0 rfl rfl)
theorem dL_law_2252 : decode cL_law 2252 = .ok (.iconst 1, 1) := dk_4 (dk_at dksL_law_86 2 rfl rfl)
theorem dL_law_2253 : decode cL_law 2253 = .ok (.iadd, 1) := dk_96 (dk_at dksL_law_86 3 rfl rfl)
theorem dL_law_2254 : decode cL_law 2254 = .ok (.iaload, 1) := dk_46 (dk_at dksL_law_86 4 rfl rfl)
theorem dL_law_2255 : decode cL_law 2255 = .ok (.aload_n 3, 1) := dk_45 (dk_at dksL_law_86 5 rfl rfl)
theorem dL_law_2256 : decode cL_law 2256 = .ok (.invokestatic 297, 3) := dk_184 1 41 (dk_at dksL_law_86 6 rfl rfl)
theorem dL_law_2259 : decode cL_law 2259 = .ok (.istore 6, 2) := dk_54 6 (dk_at dksL_law_86 9 rfl rfl)
theorem dL_law_2261 : decode cL_law 2261 = .ok (.aload_n 2, 1) := dk_44 (dk_at dksL_law_86 11 rfl rfl)
theorem dL_law_2262 : decode cL_law 2262 = .ok (.aload_n 0, 1) := dk_42 (dk_at dksL_law_86 12 rfl rfl)
theorem dL_law_2263 : decode cL_law 2263 = .ok (.iload 5, 2) := dk_21 5 (dk_at dksL_law_86 13 rfl rfl)
theorem dL_law_2265 : decode cL_law 2265 = .ok (.iconst 1, 1) := dk_4 (dk_at dksL_law_86 15 rfl rfl)
theorem dL_law_2266 : decode cL_law 2266 = .ok (.iadd, 1) := dk_96 (dk_at dksL_law_86 16 rfl rfl)
theorem dL_law_2267 : decode cL_law 2267 = .ok (.iaload, 1) := dk_46 (dk_at dksL_law_86 17 rfl rfl)
theorem dL_law_2268 : decode cL_law 2268 = .ok (.invokevirtual 299, 3) := dk_182 1 43 (dk_at dksL_law_86 18 rfl rfl)
theorem dL_law_2271 : decode cL_law 2271 = .ok (.istore 7, 2) := dk_54 7 (dk_at dksL_law_86 21 rfl rfl)
theorem dL_law_2273 : decode cL_law 2273 = .ok (.aload_n 2, 1) := dk_44 (dk_at dksL_law_86 23 rfl rfl)
theorem dL_law_2274 : decode cL_law 2274 = .ok (.invokevirtual 185, 3) := dk_182 0 185 (dk_at dksL_law_87 0 rfl rfl)
theorem dL_law_2277 : decode cL_law 2277 = .ok (.iload 6, 2) := dk_21 6 (dk_at dksL_law_87 3 rfl rfl)
theorem dL_law_2279 : decode cL_law 2279 = .ok (.if_icmp .eq 5, 3) := dk_159 0 5 (dk_at dksL_law_87 5 rfl rfl)
theorem dL_law_2282 : decode cL_law 2282 = .ok (.iconst 0, 1) := dk_3 (dk_at dksL_law_87 8 rfl rfl)
theorem dL_law_2283 : decode cL_law 2283 = .ok (.ireturn, 1) := dk_172 (dk_at dksL_law_87 9 rfl rfl)
theorem dL_law_2284 : decode cL_law 2284 = .ok (.iload 6, 2) := dk_21 6 (dk_at dksL_law_87 10 rfl rfl)
theorem dL_law_2286 : decode cL_law 2286 = .ok (.ifCond .ne 15, 3) := dk_154 0 15 (dk_at dksL_law_87 12 rfl rfl)
theorem dL_law_2289 : decode cL_law 2289 = .ok (.aload_n 3, 1) := dk_45 (dk_at dksL_law_87 15 rfl rfl)
theorem dL_law_2290 : decode cL_law 2290 = .ok (.iconst 0, 1) := dk_3 (dk_at dksL_law_87 16 rfl rfl)
theorem dL_law_2291 : decode cL_law 2291 = .ok (.laload, 1) := dk_47 (dk_at dksL_law_87 17 rfl rfl)
theorem dL_law_2292 : decode cL_law 2292 = .ok (.iload 7, 2) := dk_21 7 (dk_at dksL_law_87 18 rfl rfl)
theorem dL_law_2294 : decode cL_law 2294 = .ok (.i2l, 1) := dk_133 (dk_at dksL_law_87 20 rfl rfl)
theorem dL_law_2295 : decode cL_law 2295 = .ok (.lcmp, 1) := dk_148 (dk_at dksL_law_87 21 rfl rfl)
theorem dL_law_2296 : decode cL_law 2296 = .ok (.ifCond .eq 5, 3) := dk_153 0 5 (dk_at dksL_law_88 0 rfl rfl)
theorem dL_law_2299 : decode cL_law 2299 = .ok (.iconst 0, 1) := dk_3 (dk_at dksL_law_88 3 rfl rfl)
theorem dL_law_2300 : decode cL_law 2300 = .ok (.ireturn, 1) := dk_172 (dk_at dksL_law_88 4 rfl rfl)
theorem dL_law_2301 : decode cL_law 2301 = .ok (.goto 1022, 3) := dk_167 3 254 (dk_at dksL_law_88 5 rfl rfl)
theorem dL_law_2304 : decode cL_law 2304 = .ok (.aload_n 1, 1) := dk_43 (dk_at dksL_law_88 8 rfl rfl)
theorem dL_law_2305 : decode cL_law 2305 = .ok (.invokevirtual 300, 3) := dk_182 1 44 (dk_at dksL_law_88 9 rfl rfl)
theorem dL_law_2308 : decode cL_law 2308 = .ok (.aload_n 2, 1) := dk_44 (dk_at dksL_law_88 12 rfl rfl)
theorem dL_law_2309 : decode cL_law 2309 = .ok (.invokevirtual 303, 3) := dk_182 1 47 (dk_at dksL_law_88 13 rfl rfl)
theorem dL_law_2312 : decode cL_law 2312 = .ok (.if_icmp .eq 1011, 3) := dk_159 3 243 (dk_at dksL_law_88 16 rfl rfl)
theorem dL_law_2315 : decode cL_law 2315 = .ok (.iconst 0, 1) := dk_3 (dk_at dksL_law_88 19 rfl rfl)
theorem dL_law_2316 : decode cL_law 2316 = .ok (.ireturn, 1) := dk_172 (dk_at dksL_law_88 20 rfl rfl)
theorem dL_law_2317 : decode cL_law 2317 = .ok (.aload_n 1, 1) := dk_43 (dk_at dksL_law_88 21 rfl rfl)
theorem dL_law_2318 : decode cL_law 2318 = .ok (.aload_n 0, 1) := dk_42 (dk_at dksL_law_88 22 rfl rfl)
theorem dL_law_2319 : decode cL_law 2319 = .ok (.iload 5, 2) := dk_21 5 (dk_at dksL_law_89 0 rfl rfl)
theorem dL_law_2321 : decode cL_law 2321 = .ok (.iconst 1, 1) := dk_4 (dk_at dksL_law_89 2 rfl rfl)
theorem dL_law_2322 : decode cL_law 2322 = .ok (.iadd, 1) := dk_96 (dk_at dksL_law_89 3 rfl rfl)
theorem dL_law_2323 : decode cL_law 2323 = .ok (.iaload, 1) := dk_46 (dk_at dksL_law_89 4 rfl rfl)
theorem dL_law_2324 : decode cL_law 2324 = .ok (.aload_n 3, 1) := dk_45 (dk_at dksL_law_89 5 rfl rfl)
theorem dL_law_2325 : decode cL_law 2325 = .ok (.invokestatic 304, 3) := dk_184 1 48 (dk_at dksL_law_89 6 rfl rfl)
theorem dL_law_2328 : decode cL_law 2328 = .ok (.istore 6, 2) := dk_54 6 (dk_at dksL_law_89 9 rfl rfl)
theorem dL_law_2330 : decode cL_law 2330 = .ok (.aload_n 2, 1) := dk_44 (dk_at dksL_law_89 11 rfl rfl)
theorem dL_law_2331 : decode cL_law 2331 = .ok (.aload_n 0, 1) := dk_42 (dk_at dksL_law_89 12 rfl rfl)
theorem dL_law_2332 : decode cL_law 2332 = .ok (.iload 5, 2) := dk_21 5 (dk_at dksL_law_89 13 rfl rfl)
theorem dL_law_2334 : decode cL_law 2334 = .ok (.iconst 1, 1) := dk_4 (dk_at dksL_law_89 15 rfl rfl)
theorem dL_law_2335 : decode cL_law 2335 = .ok (.iadd, 1) := dk_96 (dk_at dksL_law_89 16 rfl rfl)
theorem dL_law_2336 : decode cL_law 2336 = .ok (.iaload, 1) := dk_46 (dk_at dksL_law_89 17 rfl rfl)
theorem dL_law_2337 : decode cL_law 2337 = .ok (.invokevirtual 306, 3) := dk_182 1 50 (dk_at dksL_law_89 18 rfl rfl)
theorem dL_law_2340 : decode cL_law 2340 = .ok (.istore 7, 2) := dk_54 7 (dk_at dksL_law_89 21 rfl rfl)
theorem dL_law_2342 : decode cL_law 2342 = .ok (.aload_n 2, 1) := dk_44 (dk_at dksL_law_89 23 rfl rfl)
theorem dL_law_2343 : decode cL_law 2343 = .ok (.invokevirtual 185, 3) := dk_182 0 185 (dk_at dksL_law_90 0 rfl rfl)
theorem dL_law_2346 : decode cL_law 2346 = .ok (.iload 6, 2) := dk_21 6 (dk_at dksL_law_90 3 rfl rfl)
theorem dL_law_2348 : decode cL_law 2348 = .ok (.if_icmp .eq 5, 3) := dk_159 0 5 (dk_at dksL_law_90 5 rfl rfl)
theorem dL_law_2351 : decode cL_law 2351 = .ok (.iconst 0, 1) := dk_3 (dk_at dksL_law_90 8 rfl rfl)
theorem dL_law_2352 : decode cL_law 2352 = .ok (.ireturn, 1) := dk_172 (dk_at dksL_law_90 9 rfl rfl)
theorem dL_law_2353 : decode cL_law 2353 = .ok (.iload 6, 2) := dk_21 6 (dk_at dksL_law_90 10 rfl rfl)
theorem dL_law_2355 : decode cL_law 2355 = .ok (.ifCond .ne 15, 3) := dk_154 0 15 (dk_at dksL_law_90 12 rfl rfl)
theorem dL_law_2358 : decode cL_law 2358 = .ok (.aload_n 3, 1) := dk_45 (dk_at dksL_law_90 15 rfl rfl)
theorem dL_law_2359 : decode cL_law 2359 = .ok (.iconst 0, 1) := dk_3 (dk_at dksL_law_90 16 rfl rfl)
theorem dL_law_2360 : decode cL_law 2360 = .ok (.laload, 1) := dk_47 (dk_at dksL_law_90 17 rfl rfl)
theorem dL_law_2361 : decode cL_law 2361 = .ok (.iload 7, 2) := dk_21 7 (dk_at dksL_law_90 18 rfl rfl)
theorem dL_law_2363 : decode cL_law 2363 = .ok (.i2l, 1) := dk_133 (dk_at dksL_law_90 20 rfl rfl)
theorem dL_law_2364 : decode cL_law 2364 = .ok (.lcmp, 1) := dk_148 (dk_at dksL_law_90 21 rfl rfl)
theorem dL_law_2365 : decode cL_law 2365 = .ok (.ifCond .eq 5, 3) := dk_153 0 5 (dk_at dksL_law_91 0 rfl rfl)
theorem dL_law_2368 : decode cL_law 2368 = .ok (.iconst 0, 1) := dk_3 (dk_at dksL_law_91 3 rfl rfl)
theorem dL_law_2369 : decode cL_law 2369 = .ok (.ireturn, 1) := dk_172 (dk_at dksL_law_91 4 rfl rfl)
theorem dL_law_2370 : decode cL_law 2370 = .ok (.goto 953, 3) := dk_167 3 185 (dk_at dksL_law_91 5 rfl rfl)
theorem dL_law_2373 : decode cL_law 2373 = .ok (.aload_n 1, 1) := dk_43 (dk_at dksL_law_91 8 rfl rfl)
theorem dL_law_2374 : decode cL_law 2374 = .ok (.aload_n 0, 1) := dk_42 (dk_at dksL_law_91 9 rfl rfl)
theorem dL_law_2375 : decode cL_law 2375 = .ok (.iload 5, 2) := dk_21 5 (dk_at dksL_law_91 10 rfl rfl)
theorem dL_law_2377 : decode cL_law 2377 = .ok (.iconst 1, 1) := dk_4 (dk_at dksL_law_91 12 rfl rfl)
theorem dL_law_2378 : decode cL_law 2378 = .ok (.iadd, 1) := dk_96 (dk_at dksL_law_91 13 rfl rfl)
theorem dL_law_2379 : decode cL_law 2379 = .ok (.iaload, 1) := dk_46 (dk_at dksL_law_91 14 rfl rfl)
theorem dL_law_2380 : decode cL_law 2380 = .ok (.aload_n 3, 1) := dk_45 (dk_at dksL_law_91 15 rfl rfl)
theorem dL_law_2381 : decode cL_law 2381 = .ok (.invokestatic 307, 3) := dk_184 1 51 (dk_at dksL_law_91 16 rfl rfl)
theorem dL_law_2384 : decode cL_law 2384 = .ok (.istore 6, 2) := dk_54 6 (dk_at dksL_law_91 19 rfl rfl)
theorem dL_law_2386 : decode cL_law 2386 = .ok (.aload_n 2, 1) := dk_44 (dk_at dksL_law_91 21 rfl rfl)
theorem dL_law_2387 : decode cL_law 2387 = .ok (.aload_n 0, 1) := dk_42 (dk_at dksL_law_91 22 rfl rfl)
theorem dL_law_2388 : decode cL_law 2388 = .ok (.iload 5, 2) := dk_21 5 (dk_at dksL_law_92 0 rfl rfl)
theorem dL_law_2390 : decode cL_law 2390 = .ok (.iconst 1, 1) := dk_4 (dk_at dksL_law_92 2 rfl rfl)
theorem dL_law_2391 : decode cL_law 2391 = .ok (.iadd, 1) := dk_96 (dk_at dksL_law_92 3 rfl rfl)
theorem dL_law_2392 : decode cL_law 2392 = .ok (.iaload, 1) := dk_46 (dk_at dksL_law_92 4 rfl rfl)
theorem dL_law_2393 : decode cL_law 2393 = .ok (.invokevirtual 309, 3) := dk_182 1 53 (dk_at dksL_law_92 5 rfl rfl)
theorem dL_law_2396 : decode cL_law 2396 = .ok (.istore 7, 2) := dk_54 7 (dk_at dksL_law_92 8 rfl rfl)
theorem dL_law_2398 : decode cL_law 2398 = .ok (.aload_n 2, 1) := dk_44 (dk_at dksL_law_92 10 rfl rfl)
theorem dL_law_2399 : decode cL_law 2399 = .ok (.invokevirtual 185, 3) := dk_182 0 185 (dk_at dksL_law_92 11 rfl rfl)
theorem dL_law_2402 : decode cL_law 2402 = .ok (.iload 6, 2) := dk_21 6 (dk_at dksL_law_92 14 rfl rfl)
theorem dL_law_2404 : decode cL_law 2404 = .ok (.if_icmp .eq 5, 3) := dk_159 0 5 (dk_at dksL_law_92 16 rfl rfl)
theorem dL_law_2407 : decode cL_law 2407 = .ok (.iconst 0, 1) := dk_3 (dk_at dksL_law_92 19 rfl rfl)
theorem dL_law_2408 : decode cL_law 2408 = .ok (.ireturn, 1) := dk_172 (dk_at dksL_law_92 20 rfl rfl)
theorem dL_law_2409 : decode cL_law 2409 = .ok (.iload 6, 2) := dk_21 6 (dk_at dksL_law_92 21 rfl rfl)
theorem dL_law_2411 : decode cL_law 2411 = .ok (.ifCond .ne 15, 3) := dk_154 0 15 (dk_at dksL_law_93 0 rfl rfl)
theorem dL_law_2414 : decode cL_law 2414 = .ok (.aload_n 3, 1) := dk_45 (dk_at dksL_law_93 3 rfl rfl)
theorem dL_law_2415 : decode cL_law 2415 = .ok (.iconst 0, 1) := dk_3 (dk_at dksL_law_93 4 rfl rfl)
theorem dL_law_2416 : decode cL_law 2416 = .ok (.laload, 1) := dk_47 (dk_at dksL_law_93 5 rfl rfl)
theorem dL_law_2417 : decode cL_law 2417 = .ok (.iload 7, 2) := dk_21 7 (dk_at dksL_law_93 6 rfl rfl)
theorem dL_law_2419 : decode cL_law 2419 = .ok (.i2l, 1) := dk_133 (dk_at dksL_law_93 8 rfl rfl)
theorem dL_law_2420 : decode cL_law 2420 = .ok (.lcmp, 1) := dk_148 (dk_at dksL_law_93 9 rfl rfl)
theorem dL_law_2421 : decode cL_law 2421 = .ok (.ifCond .eq 5, 3) := dk_153 0 5 (dk_at dksL_law_93 10 rfl rfl)
theorem dL_law_2424 : decode cL_law 2424 = .ok (.iconst 0, 1) := dk_3 (dk_at dksL_law_93 13 rfl rfl)
theorem dL_law_2425 : decode cL_law 2425 = .ok (.ireturn, 1) := dk_172 (dk_at dksL_law_93 14 rfl rfl)
theorem dL_law_2426 : decode cL_law 2426 = .ok (.goto 897, 3) := dk_167 3 129 (dk_at dksL_law_93 15 rfl rfl)
theorem dL_law_2429 : decode cL_law 2429 = .ok (.aload_n 1, 1) := dk_43 (dk_at dksL_law_93 18 rfl rfl)
theorem dL_law_2430 : decode cL_law 2430 = .ok (.invokevirtual 310, 3) := dk_182 1 54 (dk_at dksL_law_93 19 rfl rfl)
theorem dL_law_2433 : decode cL_law 2433 = .ok (.aload_n 2, 1) := dk_44 (dk_at dksL_law_93 22 rfl rfl)
theorem dL_law_2434 : decode cL_law 2434 = .ok (.invokevirtual 313, 3) := dk_182 1 57 (dk_at dksL_law_94 0 rfl rfl)
theorem dL_law_2437 : decode cL_law 2437 = .ok (.if_icmp .eq 886, 3) := dk_159 3 118 (dk_at dksL_law_94 3 rfl rfl)
theorem dL_law_2440 : decode cL_law 2440 = .ok (.iconst 0, 1) := dk_3 (dk_at dksL_law_94 6 rfl rfl)
theorem dL_law_2441 : decode cL_law 2441 = .ok (.ireturn, 1) := dk_172 (dk_at dksL_law_94 7 rfl rfl)
theorem dL_law_2442 : decode cL_law 2442 = .ok (.aload_n 1, 1) := dk_43 (dk_at dksL_law_94 8 rfl rfl)
theorem dL_law_2443 : decode cL_law 2443 = .ok (.invokevirtual 314, 3) := dk_182 1 58 (dk_at dksL_law_94 9 rfl rfl)
theorem dL_law_2446 : decode cL_law 2446 = .ok (.aload_n 2, 1) := dk_44 (dk_at dksL_law_94 12 rfl rfl)
theorem dL_law_2447 : decode cL_law 2447 = .ok (.invokevirtual 317, 3) := dk_182 1 61 (dk_at dksL_law_94 13 rfl rfl)
theorem dL_law_2450 : decode cL_law 2450 = .ok (.if_icmp .eq 873, 3) := dk_159 3 105 (dk_at dksL_law_94 16 rfl rfl)
theorem dL_law_2453 : decode cL_law 2453 = .ok (.iconst 0, 1) := dk_3 (dk_at dksL_law_94 19 rfl rfl)
theorem dL_law_2454 : decode cL_law 2454 = .ok (.ireturn, 1) := dk_172 (dk_at dksL_law_94 20 rfl rfl)
theorem dL_law_2455 : decode cL_law 2455 = .ok (.aload_n 1, 1) := dk_43 (dk_at dksL_law_94 21 rfl rfl)
theorem dL_law_2456 : decode cL_law 2456 = .ok (.invokevirtual 318, 3) := dk_182 1 62 (dk_at dksL_law_95 0 rfl rfl)
theorem dL_law_2459 : decode cL_law 2459 = .ok (.aload_n 2, 1) := dk_44 (dk_at dksL_law_95 3 rfl rfl)
theorem dL_law_2460 : decode cL_law 2460 = .ok (.invokevirtual 321, 3) := dk_182 1 65 (dk_at dksL_law_95 4 rfl rfl)
theorem dL_law_2463 : decode cL_law 2463 = .ok (.if_icmp .eq 860, 3) := dk_159 3 92 (dk_at dksL_law_95 7 rfl rfl)
theorem dL_law_2466 : decode cL_law 2466 = .ok (.iconst 0, 1) := dk_3 (dk_at dksL_law_95 10 rfl rfl)
theorem dL_law_2467 : decode cL_law 2467 = .ok (.ireturn, 1) := dk_172 (dk_at dksL_law_95 11 rfl rfl)
theorem dL_law_2468 : decode cL_law 2468 = .ok (.aload_n 1, 1) := dk_43 (dk_at dksL_law_95 12 rfl rfl)
theorem dL_law_2469 : decode cL_law 2469 = .ok (.invokevirtual 322, 3) := dk_182 1 66 (dk_at dksL_law_95 13 rfl rfl)
theorem dL_law_2472 : decode cL_law 2472 = .ok (.aload_n 2, 1) := dk_44 (dk_at dksL_law_95 16 rfl rfl)
theorem dL_law_2473 : decode cL_law 2473 = .ok (.invokevirtual 325, 3) := dk_182 1 69 (dk_at dksL_law_95 17 rfl rfl)
theorem dL_law_2476 : decode cL_law 2476 = .ok (.if_icmp .eq 847, 3) := dk_159 3 79 (dk_at dksL_law_95 20 rfl rfl)
theorem dL_law_2479 : decode cL_law 2479 = .ok (.iconst 0, 1) := dk_3 (dk_at dksL_law_95 23 rfl rfl)
theorem dL_law_2480 : decode cL_law 2480 = .ok (.ireturn, 1) := dk_172 (dk_at dksL_law_96 0 rfl rfl)
theorem dL_law_2481 : decode cL_law 2481 = .ok (.aload_n 1, 1) := dk_43 (dk_at dksL_law_96 1 rfl rfl)
theorem dL_law_2482 : decode cL_law 2482 = .ok (.invokevirtual 326, 3) := dk_182 1 70 (dk_at dksL_law_96 2 rfl rfl)
theorem dL_law_2485 : decode cL_law 2485 = .ok (.aload_n 2, 1) := dk_44 (dk_at dksL_law_96 5 rfl rfl)
theorem dL_law_2486 : decode cL_law 2486 = .ok (.invokevirtual 329, 3) := dk_182 1 73 (dk_at dksL_law_96 6 rfl rfl)
theorem dL_law_2489 : decode cL_law 2489 = .ok (.if_icmp .eq 834, 3) := dk_159 3 66 (dk_at dksL_law_96 9 rfl rfl)
theorem dL_law_2492 : decode cL_law 2492 = .ok (.iconst 0, 1) := dk_3 (dk_at dksL_law_96 12 rfl rfl)
theorem dL_law_2493 : decode cL_law 2493 = .ok (.ireturn, 1) := dk_172 (dk_at dksL_law_96 13 rfl rfl)
theorem dL_law_2494 : decode cL_law 2494 = .ok (.aload_n 1, 1) := dk_43 (dk_at dksL_law_96 14 rfl rfl)
theorem dL_law_2495 : decode cL_law 2495 = .ok (.invokevirtual 330, 3) := dk_182 1 74 (dk_at dksL_law_96 15 rfl rfl)
theorem dL_law_2498 : decode cL_law 2498 = .ok (.aload_n 2, 1) := dk_44 (dk_at dksL_law_96 18 rfl rfl)
theorem dL_law_2499 : decode cL_law 2499 = .ok (.invokevirtual 333, 3) := dk_182 1 77 (dk_at dksL_law_96 19 rfl rfl)
theorem dL_law_2502 : decode cL_law 2502 = .ok (.if_icmp .eq 821, 3) := dk_159 3 53 (dk_at dksL_law_97 0 rfl rfl)
theorem dL_law_2505 : decode cL_law 2505 = .ok (.iconst 0, 1) := dk_3 (dk_at dksL_law_97 3 rfl rfl)
theorem dL_law_2506 : decode cL_law 2506 = .ok (.ireturn, 1) := dk_172 (dk_at dksL_law_97 4 rfl rfl)
theorem dL_law_2507 : decode cL_law 2507 = .ok (.aload_n 1, 1) := dk_43 (dk_at dksL_law_97 5 rfl rfl)
theorem dL_law_2508 : decode cL_law 2508 = .ok (.invokevirtual 334, 3) := dk_182 1 78 (dk_at dksL_law_97 6 rfl rfl)
theorem dL_law_2511 : decode cL_law 2511 = .ok (.aload_n 2, 1) := dk_44 (dk_at dksL_law_97 9 rfl rfl)
theorem dL_law_2512 : decode cL_law 2512 = .ok (.invokevirtual 337, 3) := dk_182 1 81 (dk_at dksL_law_97 10 rfl rfl)
theorem dL_law_2515 : decode cL_law 2515 = .ok (.if_icmp .eq 808, 3) := dk_159 3 40 (dk_at dksL_law_97 13 rfl rfl)
theorem dL_law_2518 : decode cL_law 2518 = .ok (.iconst 0, 1) := dk_3 (dk_at dksL_law_97 16 rfl rfl)
theorem dL_law_2519 : decode cL_law 2519 = .ok (.ireturn, 1) := dk_172 (dk_at dksL_law_97 17 rfl rfl)
theorem dL_law_2520 : decode cL_law 2520 = .ok (.aload_n 1, 1) := dk_43 (dk_at dksL_law_97 18 rfl rfl)
theorem dL_law_2521 : decode cL_law 2521 = .ok (.aload_n 0, 1) := dk_42 (dk_at dksL_law_97 19 rfl rfl)
theorem dL_law_2522 : decode cL_law 2522 = .ok (.iload 5, 2) := dk_21 5 (dk_at dksL_law_97 20 rfl rfl)
theorem dL_law_2524 : decode cL_law 2524 = .ok (.iconst 1, 1) := dk_4 (dk_at dksL_law_97 22 rfl rfl)
theorem dL_law_2525 : decode cL_law 2525 = .ok (.iadd, 1) := dk_96 (dk_at dksL_law_97 23 rfl rfl)
theorem dL_law_2526 : decode cL_law 2526 = .ok (.iaload, 1) := dk_46 (dk_at dksL_law_98 0 rfl rfl)
theorem dL_law_2527 : decode cL_law 2527 = .ok (.aload_n 3, 1) := dk_45 (dk_at dksL_law_98 1 rfl rfl)
theorem dL_law_2528 : decode cL_law 2528 = .ok (.invokestatic 338, 3) := dk_184 1 82 (dk_at dksL_law_98 2 rfl rfl)
theorem dL_law_2531 : decode cL_law 2531 = .ok (.istore 6, 2) := dk_54 6 (dk_at dksL_law_98 5 rfl rfl)
theorem dL_law_2533 : decode cL_law 2533 = .ok (.aload_n 2, 1) := dk_44 (dk_at dksL_law_98 7 rfl rfl)
theorem dL_law_2534 : decode cL_law 2534 = .ok (.aload_n 0, 1) := dk_42 (dk_at dksL_law_98 8 rfl rfl)
theorem dL_law_2535 : decode cL_law 2535 = .ok (.iload 5, 2) := dk_21 5 (dk_at dksL_law_98 9 rfl rfl)
theorem dL_law_2537 : decode cL_law 2537 = .ok (.iconst 1, 1) := dk_4 (dk_at dksL_law_98 11 rfl rfl)
theorem dL_law_2538 : decode cL_law 2538 = .ok (.iadd, 1) := dk_96 (dk_at dksL_law_98 12 rfl rfl)
theorem dL_law_2539 : decode cL_law 2539 = .ok (.iaload, 1) := dk_46 (dk_at dksL_law_98 13 rfl rfl)
theorem dL_law_2540 : decode cL_law 2540 = .ok (.invokevirtual 340, 3) := dk_182 1 84 (dk_at dksL_law_98 14 rfl rfl)
theorem dL_law_2543 : decode cL_law 2543 = .ok (.istore 7, 2) := dk_54 7 (dk_at dksL_law_98 17 rfl rfl)
theorem dL_law_2545 : decode cL_law 2545 = .ok (.aload_n 2, 1) := dk_44 (dk_at dksL_law_98 19 rfl rfl)
theorem dL_law_2546 : decode cL_law 2546 = .ok (.invokevirtual 185, 3) := dk_182 0 185 (dk_at dksL_law_98 20 rfl rfl)
theorem dL_law_2549 : decode cL_law 2549 = .ok (.iload 6, 2) := dk_21 6 (dk_at dksL_law_99 0 rfl rfl)
theorem dL_law_2551 : decode cL_law 2551 = .ok (.if_icmp .eq 5, 3) := dk_159 0 5 (dk_at dksL_law_99 2 rfl rfl)
theorem dL_law_2554 : decode cL_law 2554 = .ok (.iconst 0, 1) := dk_3 (dk_at dksL_law_99 5 rfl rfl)
theorem dL_law_2555 : decode cL_law 2555 = .ok (.ireturn, 1) := dk_172 (dk_at dksL_law_99 6 rfl rfl)
theorem dL_law_2556 : decode cL_law 2556 = .ok (.iload 6, 2) := dk_21 6 (dk_at dksL_law_99 7 rfl rfl)
theorem dL_law_2558 : decode cL_law 2558 = .ok (.ifCond .ne 15, 3) := dk_154 0 15 (dk_at dksL_law_99 9 rfl rfl)
theorem dL_law_2561 : decode cL_law 2561 = .ok (.aload_n 3, 1) := dk_45 (dk_at dksL_law_99 12 rfl rfl)
theorem dL_law_2562 : decode cL_law 2562 = .ok (.iconst 0, 1) := dk_3 (dk_at dksL_law_99 13 rfl rfl)
theorem dL_law_2563 : decode cL_law 2563 = .ok (.laload, 1) := dk_47 (dk_at dksL_law_99 14 rfl rfl)
theorem dL_law_2564 : decode cL_law 2564 = .ok (.iload 7, 2) := dk_21 7 (dk_at dksL_law_99 15 rfl rfl)
theorem dL_law_2566 : decode cL_law 2566 = .ok (.i2l, 1) := dk_133 (dk_at dksL_law_99 17 rfl rfl)
theorem dL_law_2567 : decode cL_law 2567 = .ok (.lcmp, 1) := dk_148 (dk_at dksL_law_99 18 rfl rfl)
theorem dL_law_2568 : decode cL_law 2568 = .ok (.ifCond .eq 5, 3) := dk_153 0 5 (dk_at dksL_law_99 19 rfl rfl)
theorem dL_law_2571 : decode cL_law 2571 = .ok (.iconst 0, 1) := dk_3 (dk_at dksL_law_99 22 rfl rfl)
theorem dL_law_2572 : decode cL_law 2572 = .ok (.ireturn, 1) := dk_172 (dk_at dksL_law_99 23 rfl rfl)
theorem dL_law_2573 : decode cL_law 2573 = .ok (.goto 750, 3) := dk_167 2 238 (dk_at dksL_law_100 0 rfl rfl)
theorem dL_law_2576 : decode cL_law 2576 = .ok (.aload_n 1, 1) := dk_43 (dk_at dksL_law_100 3 rfl rfl)
theorem dL_law_2577 : decode cL_law 2577 = .ok (.aload_n 0, 1) := dk_42 (dk_at dksL_law_100 4 rfl rfl)
theorem dL_law_2578 : decode cL_law 2578 = .ok (.iload 5, 2) := dk_21 5 (dk_at dksL_law_100 5 rfl rfl)
theorem dL_law_2580 : decode cL_law 2580 = .ok (.iconst 1, 1) := dk_4 (dk_at dksL_law_100 7 rfl rfl)
theorem dL_law_2581 : decode cL_law 2581 = .ok (.iadd, 1) := dk_96 (dk_at dksL_law_100 8 rfl rfl)
theorem dL_law_2582 : decode cL_law 2582 = .ok (.iaload, 1) := dk_46 (dk_at dksL_law_100 9 rfl rfl)
theorem dL_law_2583 : decode cL_law 2583 = .ok (.aload_n 3, 1) := dk_45 (dk_at dksL_law_100 10 rfl rfl)
theorem dL_law_2584 : decode cL_law 2584 = .ok (.invokestatic 341, 3) := dk_184 1 85 (dk_at dksL_law_100 11 rfl rfl)
theorem dL_law_2587 : decode cL_law 2587 = .ok (.istore 6, 2) := dk_54 6 (dk_at dksL_law_100 14 rfl rfl)
theorem dL_law_2589 : decode cL_law 2589 = .ok (.aload_n 2, 1) := dk_44 (dk_at dksL_law_100 16 rfl rfl)
theorem dL_law_2590 : decode cL_law 2590 = .ok (.aload_n 0, 1) := dk_42 (dk_at dksL_law_100 17 rfl rfl)
theorem dL_law_2591 : decode cL_law 2591 = .ok (.iload 5, 2) := dk_21 5 (dk_at dksL_law_100 18 rfl rfl)
theorem dL_law_2593 : decode cL_law 2593 = .ok (.iconst 1, 1) := dk_4 (dk_at dksL_law_100 20 rfl rfl)
theorem dL_law_2594 : decode cL_law 2594 = .ok (.iadd, 1) := dk_96 (dk_at dksL_law_100 21 rfl rfl)
theorem dL_law_2595 : decode cL_law 2595 = .ok (.iaload, 1) := dk_46 (dk_at dksL_law_100 22 rfl rfl)
theorem dL_law_2596 : decode cL_law 2596 = .ok (.invokevirtual 343, 3) := dk_182 1 87 (dk_at dksL_law_101 0 rfl rfl)
theorem dL_law_2599 : decode cL_law 2599 = .ok (.istore 7, 2) := dk_54 7 (dk_at dksL_law_101 3 rfl rfl)
theorem dL_law_2601 : decode cL_law 2601 = .ok (.aload_n 2, 1) := dk_44 (dk_at dksL_law_101 5 rfl rfl)
theorem dL_law_2602 : decode cL_law 2602 = .ok (.invokevirtual 185, 3) := dk_182 0 185 (dk_at dksL_law_101 6 rfl rfl)
theorem dL_law_2605 : decode cL_law 2605 = .ok (.iload 6, 2) := dk_21 6 (dk_at dksL_law_101 9 rfl rfl)
theorem dL_law_2607 : decode cL_law 2607 = .ok (.if_icmp .eq 5, 3) := dk_159 0 5 (dk_at dksL_law_101 11 rfl rfl)
theorem dL_law_2610 : decode cL_law 2610 = .ok (.iconst 0, 1) := dk_3 (dk_at dksL_law_101 14 rfl rfl)
theorem dL_law_2611 : decode cL_law 2611 = .ok (.ireturn, 1) := dk_172 (dk_at dksL_law_101 15 rfl rfl)
theorem dL_law_2612 : decode cL_law 2612 = .ok (.iload 6, 2) := dk_21 6 (dk_at dksL_law_101 16 rfl rfl)
theorem dL_law_2614 : decode cL_law 2614 = .ok (.ifCond .ne 15, 3) := dk_154 0 15 (dk_at dksL_law_101 18 rfl rfl)
theorem dL_law_2617 : decode cL_law 2617 = .ok (.aload_n 3, 1) := dk_45 (dk_at dksL_law_101 21 rfl rfl)
theorem dL_law_2618 : decode cL_law 2618 = .ok (.iconst 0, 1) := dk_3 (dk_at dksL_law_101 22 rfl rfl)
theorem dL_law_2619 : decode cL_law 2619 = .ok (.laload, 1) := dk_47 (dk_at dksL_law_101 23 rfl rfl)
theorem dL_law_2620 : decode cL_law 2620 = .ok (.iload 7, 2) := dk_21 7 (dk_at dksL_law_102 0 rfl rfl)
theorem dL_law_2622 : decode cL_law 2622 = .ok (.i2l, 1) := dk_133 (dk_at dksL_law_102 2 rfl rfl)
theorem dL_law_2623 : decode cL_law 2623 = .ok (.lcmp, 1) := dk_148 (dk_at dksL_law_102 3 rfl rfl)
theorem dL_law_2624 : decode cL_law 2624 = .ok (.ifCond .eq 5, 3) := dk_153 0 5 (dk_at dksL_law_102 4 rfl rfl)
theorem dL_law_2627 : decode cL_law 2627 = .ok (.iconst 0, 1) := dk_3 (dk_at dksL_law_102 7 rfl rfl)
theorem dL_law_2628 : decode cL_law 2628 = .ok (.ireturn, 1) := dk_172 (dk_at dksL_law_102 8 rfl rfl)
theorem dL_law_2629 : decode cL_law 2629 = .ok (.goto 694, 3) := dk_167 2 182 (dk_at dksL_law_102 9 rfl rfl)
theorem dL_law_2632 : decode cL_law 2632 = .ok (.aload_n 1, 1) := dk_43 (dk_at dksL_law_102 12 rfl rfl)
theorem dL_law_2633 : decode cL_law 2633 = .ok (.aload 4, 2) := dk_25 4 (dk_at dksL_law_102 13 rfl rfl)
theorem dL_law_2635 : decode cL_law 2635 = .ok (.invokestatic 344, 3) := dk_184 1 88 (dk_at dksL_law_102 15 rfl rfl)
theorem dL_law_2638 : decode cL_law 2638 = .ok (.istore 6, 2) := dk_54 6 (dk_at dksL_law_102 18 rfl rfl)
theorem dL_law_2640 : decode cL_law 2640 = .ok (.aload_n 2, 1) := dk_44 (dk_at dksL_law_102 20 rfl rfl)
theorem dL_law_2641 : decode cL_law 2641 = .ok (.invokevirtual 347, 3) := dk_182 1 91 (dk_at dksL_law_102 21 rfl rfl)
theorem dL_law_2644 : decode cL_law 2644 = .ok (.dstore 7, 2) := dk_57 7 (dk_at dksL_law_103 0 rfl rfl)
theorem dL_law_2646 : decode cL_law 2646 = .ok (.aload_n 2, 1) := dk_44 (dk_at dksL_law_103 2 rfl rfl)
theorem dL_law_2647 : decode cL_law 2647 = .ok (.invokevirtual 185, 3) := dk_182 0 185 (dk_at dksL_law_103 3 rfl rfl)
theorem dL_law_2650 : decode cL_law 2650 = .ok (.iload 6, 2) := dk_21 6 (dk_at dksL_law_103 6 rfl rfl)
theorem dL_law_2652 : decode cL_law 2652 = .ok (.if_icmp .eq 5, 3) := dk_159 0 5 (dk_at dksL_law_103 8 rfl rfl)
theorem dL_law_2655 : decode cL_law 2655 = .ok (.iconst 0, 1) := dk_3 (dk_at dksL_law_103 11 rfl rfl)
theorem dL_law_2656 : decode cL_law 2656 = .ok (.ireturn, 1) := dk_172 (dk_at dksL_law_103 12 rfl rfl)
theorem dL_law_2657 : decode cL_law 2657 = .ok (.iload 6, 2) := dk_21 6 (dk_at dksL_law_103 13 rfl rfl)
theorem dL_law_2659 : decode cL_law 2659 = .ok (.ifCond .ne 35, 3) := dk_154 0 35 (dk_at dksL_law_103 15 rfl rfl)
theorem dL_law_2662 : decode cL_law 2662 = .ok (.aload 4, 2) := dk_25 4 (dk_at dksL_law_103 18 rfl rfl)
theorem dL_law_2664 : decode cL_law 2664 = .ok (.iconst 0, 1) := dk_3 (dk_at dksL_law_103 20 rfl rfl)
theorem dL_law_2665 : decode cL_law 2665 = .ok (.daload, 1) := dk_49 (dk_at dksL_law_103 21 rfl rfl)
theorem dL_law_2666 : decode cL_law 2666 = .ok (.dload 7, 2) := dk_24 7 (dk_at dksL_law_103 22 rfl rfl)
theorem dL_law_2668 : decode cL_law 2668 = .ok (.dcmp .l, 1) := dk_151 (dk_at dksL_law_104 0 rfl rfl)
theorem dL_law_2669 : decode cL_law 2669 = .ok (.ifCond .eq 25, 3) := dk_153 0 25 (dk_at dksL_law_104 1 rfl rfl)
theorem dL_law_2672 : decode cL_law 2672 = .ok (.aload 4, 2) := dk_25 4 (dk_at dksL_law_104 4 rfl rfl)
theorem dL_law_2674 : decode cL_law 2674 = .ok (.iconst 0, 1) := dk_3 (dk_at dksL_law_104 6 rfl rfl)
theorem dL_law_2675 : decode cL_law 2675 = .ok (.daload, 1) := dk_49 (dk_at dksL_law_104 7 rfl rfl)
theorem dL_law_2676 : decode cL_law 2676 = .ok (.aload 4, 2) := dk_25 4 (dk_at dksL_law_104 8 rfl rfl)
theorem dL_law_2678 : decode cL_law 2678 = .ok (.iconst 0, 1) := dk_3 (dk_at dksL_law_104 10 rfl rfl)
theorem dL_law_2679 : decode cL_law 2679 = .ok (.daload, 1) := dk_49 (dk_at dksL_law_104 11 rfl rfl)
theorem dL_law_2680 : decode cL_law 2680 = .ok (.dcmp .l, 1) := dk_151 (dk_at dksL_law_104 12 rfl rfl)
theorem dL_law_2681 : decode cL_law 2681 = .ok (.ifCond .eq 11, 3) := dk_153 0 11 (dk_at dksL_law_104 13 rfl rfl)
theorem dL_law_2684 : decode cL_law 2684 = .ok (.dload 7, 2) := dk_24 7 (dk_at dksL_law_104 16 rfl rfl)
theorem dL_law_2686 : decode cL_law 2686 = .ok (.dload 7, 2) := dk_24 7 (dk_at dksL_law_104 18 rfl rfl)
theorem dL_law_2688 : decode cL_law 2688 = .ok (.dcmp .l, 1) := dk_151 (dk_at dksL_law_104 20 rfl rfl)
theorem dL_law_2689 : decode cL_law 2689 = .ok (.ifCond .ne 5, 3) := dk_154 0 5 (dk_at dksL_law_104 21 rfl rfl)
theorem dL_law_2692 : decode cL_law 2692 = .ok (.iconst 0, 1) := dk_3 (dk_at dksL_law_105 0 rfl rfl)
theorem dL_law_2693 : decode cL_law 2693 = .ok (.ireturn, 1) := dk_172 (dk_at dksL_law_105 1 rfl rfl)
theorem dL_law_2694 : decode cL_law 2694 = .ok (.goto 629, 3) := dk_167 2 117 (dk_at dksL_law_105 2 rfl rfl)
theorem dL_law_2697 : decode cL_law 2697 = .ok (.aload_n 1, 1) := dk_43 (dk_at dksL_law_105 5 rfl rfl)
theorem dL_law_2698 : decode cL_law 2698 = .ok (.aload 4, 2) := dk_25 4 (dk_at dksL_law_105 6 rfl rfl)
theorem dL_law_2700 : decode cL_law 2700 = .ok (.invokestatic 348, 3) := dk_184 1 92 (dk_at dksL_law_105 8 rfl rfl)
theorem dL_law_2703 : decode cL_law 2703 = .ok (.istore 6, 2) := dk_54 6 (dk_at dksL_law_105 11 rfl rfl)
theorem dL_law_2705 : decode cL_law 2705 = .ok (.aload_n 2, 1) := dk_44 (dk_at dksL_law_105 13 rfl rfl)
theorem dL_law_2706 : decode cL_law 2706 = .ok (.invokevirtual 350, 3) := dk_182 1 94 (dk_at dksL_law_105 14 rfl rfl)
theorem dL_law_2709 : decode cL_law 2709 = .ok (.fstore 7, 2) := dk_56 7 (dk_at dksL_law_105 17 rfl rfl)
theorem dL_law_2711 : decode cL_law 2711 = .ok (.aload_n 2, 1) := dk_44 (dk_at dksL_law_105 19 rfl rfl)
theorem dL_law_2712 : decode cL_law 2712 = .ok (.invokevirtual 185, 3) := dk_182 0 185 (dk_at dksL_law_105 20 rfl rfl)
theorem dL_law_2715 : decode cL_law 2715 = .ok (.iload 6, 2) := dk_21 6 (dk_at dksL_law_106 0 rfl rfl)
theorem dL_law_2717 : decode cL_law 2717 = .ok (.if_icmp .eq 5, 3) := dk_159 0 5 (dk_at dksL_law_106 2 rfl rfl)
theorem dL_law_2720 : decode cL_law 2720 = .ok (.iconst 0, 1) := dk_3 (dk_at dksL_law_106 5 rfl rfl)
theorem dL_law_2721 : decode cL_law 2721 = .ok (.ireturn, 1) := dk_172 (dk_at dksL_law_106 6 rfl rfl)
theorem dL_law_2722 : decode cL_law 2722 = .ok (.iload 6, 2) := dk_21 6 (dk_at dksL_law_106 7 rfl rfl)
theorem dL_law_2724 : decode cL_law 2724 = .ok (.ifCond .ne 36, 3) := dk_154 0 36 (dk_at dksL_law_106 9 rfl rfl)
theorem dL_law_2727 : decode cL_law 2727 = .ok (.aload 4, 2) := dk_25 4 (dk_at dksL_law_106 12 rfl rfl)
theorem dL_law_2729 : decode cL_law 2729 = .ok (.iconst 0, 1) := dk_3 (dk_at dksL_law_106 14 rfl rfl)
theorem dL_law_2730 : decode cL_law 2730 = .ok (.daload, 1) := dk_49 (dk_at dksL_law_106 15 rfl rfl)
theorem dL_law_2731 : decode cL_law 2731 = .ok (.fload 7, 2) := dk_23 7 (dk_at dksL_law_106 16 rfl rfl)
theorem dL_law_2733 : decode cL_law 2733 = .ok (.f2d, 1) := dk_141 (dk_at dksL_law_106 18 rfl rfl)
theorem dL_law_2734 : decode cL_law 2734 = .ok (.dcmp .l, 1) := dk_151 (dk_at dksL_law_106 19 rfl rfl)
theorem dL_law_2735 : decode cL_law 2735 = .ok (.ifCond .eq 25, 3) := dk_153 0 25 (dk_at dksL_law_106 20 rfl rfl)
theorem dL_law_2738 : decode cL_law 2738 = .ok (.aload 4, 2) := dk_25 4 (dk_at dksL_law_107 0 rfl rfl)
theorem dL_law_2740 : decode cL_law 2740 = .ok (.iconst 0, 1) := dk_3 (dk_at dksL_law_107 2 rfl rfl)
theorem dL_law_2741 : decode cL_law 2741 = .ok (.daload, 1) := dk_49 (dk_at dksL_law_107 3 rfl rfl)
theorem dL_law_2742 : decode cL_law 2742 = .ok (.aload 4, 2) := dk_25 4 (dk_at dksL_law_107 4 rfl rfl)
theorem dL_law_2744 : decode cL_law 2744 = .ok (.iconst 0, 1) := dk_3 (dk_at dksL_law_107 6 rfl rfl)
theorem dL_law_2745 : decode cL_law 2745 = .ok (.daload, 1) := dk_49 (dk_at dksL_law_107 7 rfl rfl)
theorem dL_law_2746 : decode cL_law 2746 = .ok (.dcmp .l, 1) := dk_151 (dk_at dksL_law_107 8 rfl rfl)
theorem dL_law_2747 : decode cL_law 2747 = .ok (.ifCond .eq 11, 3) := dk_153 0 11 (dk_at dksL_law_107 9 rfl rfl)
theorem dL_law_2750 : decode cL_law 2750 = .ok (.fload 7, 2) := dk_23 7 (dk_at dksL_law_107 12 rfl rfl)
theorem dL_law_2752 : decode cL_law 2752 = .ok (.fload 7, 2) := dk_23 7 (dk_at dksL_law_107 14 rfl rfl)
theorem dL_law_2754 : decode cL_law 2754 = .ok (.fcmp .l, 1) := dk_149 (dk_at dksL_law_107 16 rfl rfl)
theorem dL_law_2755 : decode cL_law 2755 = .ok (.ifCond .ne 5, 3) := dk_154 0 5 (dk_at dksL_law_107 17 rfl rfl)
theorem dL_law_2758 : decode cL_law 2758 = .ok (.iconst 0, 1) := dk_3 (dk_at dksL_law_107 20 rfl rfl)
theorem dL_law_2759 : decode cL_law 2759 = .ok (.ireturn, 1) := dk_172 (dk_at dksL_law_107 21 rfl rfl)
theorem dL_law_2760 : decode cL_law 2760 = .ok (.goto 563, 3) := dk_167 2 51 (dk_at dksL_law_108 0 rfl rfl)
theorem dL_law_2763 : decode cL_law 2763 = .ok (.aload_n 1, 1) := dk_43 (dk_at dksL_law_108 3 rfl rfl)
theorem dL_law_2764 : decode cL_law 2764 = .ok (.invokevirtual 351, 3) := dk_182 1 95 (dk_at dksL_law_108 4 rfl rfl)
theorem dL_law_2767 : decode cL_law 2767 = .ok (.aload_n 2, 1) := dk_44 (dk_at dksL_law_108 7 rfl rfl)
theorem dL_law_2768 : decode cL_law 2768 = .ok (.invokevirtual 355, 3) := dk_182 1 99 (dk_at dksL_law_108 8 rfl rfl)
theorem dL_law_2771 : decode cL_law 2771 = .ok (.if_icmp .eq 552, 3) := dk_159 2 40 (dk_at dksL_law_108 11 rfl rfl)
theorem dL_law_2774 : decode cL_law 2774 = .ok (.iconst 0, 1) := dk_3 (dk_at dksL_law_108 14 rfl rfl)
theorem dL_law_2775 : decode cL_law 2775 = .ok (.ireturn, 1) := dk_172 (dk_at dksL_law_108 15 rfl rfl)
theorem dL_law_2776 : decode cL_law 2776 = .ok (.aload_n 1, 1) := dk_43 (dk_at dksL_law_108 16 rfl rfl)
theorem dL_law_2777 : decode cL_law 2777 = .ok (.aload_n 0, 1) := dk_42 (dk_at dksL_law_108 17 rfl rfl)
theorem dL_law_2778 : decode cL_law 2778 = .ok (.iload 5, 2) := dk_21 5 (dk_at dksL_law_108 18 rfl rfl)
theorem dL_law_2780 : decode cL_law 2780 = .ok (.iconst 1, 1) := dk_4 (dk_at dksL_law_108 20 rfl rfl)
theorem dL_law_2781 : decode cL_law 2781 = .ok (.iadd, 1) := dk_96 (dk_at dksL_law_108 21 rfl rfl)
theorem dL_law_2782 : decode cL_law 2782 = .ok (.iaload, 1) := dk_46 (dk_at dksL_law_108 22 rfl rfl)
theorem dL_law_2783 : decode cL_law 2783 = .ok (.aload_n 3, 1) := dk_45 (dk_at dksL_law_108 23 rfl rfl)
theorem dL_law_2784 : decode cL_law 2784 = .ok (.invokestatic 356, 3) := dk_184 1 100 (dk_at dksL_law_109 0 rfl rfl)
theorem dL_law_2787 : decode cL_law 2787 = .ok (.istore 6, 2) := dk_54 6 (dk_at dksL_law_109 3 rfl rfl)
theorem dL_law_2789 : decode cL_law 2789 = .ok (.aload_n 2, 1) := dk_44 (dk_at dksL_law_109 5 rfl rfl)
theorem dL_law_2790 : decode cL_law 2790 = .ok (.aload_n 0, 1) := dk_42 (dk_at dksL_law_109 6 rfl rfl)
theorem dL_law_2791 : decode cL_law 2791 = .ok (.iload 5, 2) := dk_21 5 (dk_at dksL_law_109 7 rfl rfl)
theorem dL_law_2793 : decode cL_law 2793 = .ok (.iconst 1, 1) := dk_4 (dk_at dksL_law_109 9 rfl rfl)
theorem dL_law_2794 : decode cL_law 2794 = .ok (.iadd, 1) := dk_96 (dk_at dksL_law_109 10 rfl rfl)
theorem dL_law_2795 : decode cL_law 2795 = .ok (.iaload, 1) := dk_46 (dk_at dksL_law_109 11 rfl rfl)
theorem dL_law_2796 : decode cL_law 2796 = .ok (.invokevirtual 358, 3) := dk_182 1 102 (dk_at dksL_law_109 12 rfl rfl)
theorem dL_law_2799 : decode cL_law 2799 = .ok (.istore 7, 2) := dk_54 7 (dk_at dksL_law_109 15 rfl rfl)
theorem dL_law_2801 : decode cL_law 2801 = .ok (.aload_n 2, 1) := dk_44 (dk_at dksL_law_109 17 rfl rfl)
theorem dL_law_2802 : decode cL_law 2802 = .ok (.invokevirtual 185, 3) := dk_182 0 185 (dk_at dksL_law_109 18 rfl rfl)
theorem dL_law_2805 : decode cL_law 2805 = .ok (.iload 6, 2) := dk_21 6 (dk_at dksL_law_109 21 rfl rfl)
theorem dL_law_2807 : decode cL_law 2807 = .ok (.if_icmp .eq 5, 3) := dk_159 0 5 (dk_at dksL_law_110 0 rfl rfl)
theorem dL_law_2810 : decode cL_law 2810 = .ok (.iconst 0, 1) := dk_3 (dk_at dksL_law_110 3 rfl rfl)
theorem dL_law_2811 : decode cL_law 2811 = .ok (.ireturn, 1) := dk_172 (dk_at dksL_law_110 4 rfl rfl)
theorem dL_law_2812 : decode cL_law 2812 = .ok (.iload 6, 2) := dk_21 6 (dk_at dksL_law_110 5 rfl rfl)
theorem dL_law_2814 : decode cL_law 2814 = .ok (.ifCond .ne 15, 3) := dk_154 0 15 (dk_at dksL_law_110 7 rfl rfl)
theorem dL_law_2817 : decode cL_law 2817 = .ok (.aload_n 3, 1) := dk_45 (dk_at dksL_law_110 10 rfl rfl)
theorem dL_law_2818 : decode cL_law 2818 = .ok (.iconst 0, 1) := dk_3 (dk_at dksL_law_110 11 rfl rfl)
theorem dL_law_2819 : decode cL_law 2819 = .ok (.laload, 1) := dk_47 (dk_at dksL_law_110 12 rfl rfl)
theorem dL_law_2820 : decode cL_law 2820 = .ok (.iload 7, 2) := dk_21 7 (dk_at dksL_law_110 13 rfl rfl)
theorem dL_law_2822 : decode cL_law 2822 = .ok (.i2l, 1) := dk_133 (dk_at dksL_law_110 15 rfl rfl)
theorem dL_law_2823 : decode cL_law 2823 = .ok (.lcmp, 1) := dk_148 (dk_at dksL_law_110 16 rfl rfl)
theorem dL_law_2824 : decode cL_law 2824 = .ok (.ifCond .eq 5, 3) := dk_153 0 5 (dk_at dksL_law_110 17 rfl rfl)
theorem dL_law_2827 : decode cL_law 2827 = .ok (.iconst 0, 1) := dk_3 (dk_at dksL_law_110 20 rfl rfl)
theorem dL_law_2828 : decode cL_law 2828 = .ok (.ireturn, 1) := dk_172 (dk_at dksL_law_110 21 rfl rfl)
theorem dL_law_2829 : decode cL_law 2829 = .ok (.goto 494, 3) := dk_167 1 238 (dk_at dksL_law_111 0 rfl rfl)
theorem dL_law_2832 : decode cL_law 2832 = .ok (.aload_n 1, 1) := dk_43 (dk_at dksL_law_111 3 rfl rfl)
theorem dL_law_2833 : decode cL_law 2833 = .ok (.aload_n 0, 1) := dk_42 (dk_at dksL_law_111 4 rfl rfl)
theorem dL_law_2834 : decode cL_law 2834 = .ok (.iload 5, 2) := dk_21 5 (dk_at dksL_law_111 5 rfl rfl)
theorem dL_law_2836 : decode cL_law 2836 = .ok (.iconst 1, 1) := dk_4 (dk_at dksL_law_111 7 rfl rfl)
theorem dL_law_2837 : decode cL_law 2837 = .ok (.iadd, 1) := dk_96 (dk_at dksL_law_111 8 rfl rfl)
theorem dL_law_2838 : decode cL_law 2838 = .ok (.iaload, 1) := dk_46 (dk_at dksL_law_111 9 rfl rfl)
theorem dL_law_2839 : decode cL_law 2839 = .ok (.aload_n 3, 1) := dk_45 (dk_at dksL_law_111 10 rfl rfl)
theorem dL_law_2840 : decode cL_law 2840 = .ok (.invokestatic 359, 3) := dk_184 1 103 (dk_at dksL_law_111 11 rfl rfl)
theorem dL_law_2843 : decode cL_law 2843 = .ok (.istore 6, 2) := dk_54 6 (dk_at dksL_law_111 14 rfl rfl)
theorem dL_law_2845 : decode cL_law 2845 = .ok (.aload_n 2, 1) := dk_44 (dk_at dksL_law_111 16 rfl rfl)
theorem dL_law_2846 : decode cL_law 2846 = .ok (.aload_n 0, 1) := dk_42 (dk_at dksL_law_111 17 rfl rfl)
theorem dL_law_2847 : decode cL_law 2847 = .ok (.iload 5, 2) := dk_21 5 (dk_at dksL_law_111 18 rfl rfl)
theorem dL_law_2849 : decode cL_law 2849 = .ok (.iconst 1, 1) := dk_4 (dk_at dksL_law_111 20 rfl rfl)
theorem dL_law_2850 : decode cL_law 2850 = .ok (.iadd, 1) := dk_96 (dk_at dksL_law_111 21 rfl rfl)
theorem dL_law_2851 : decode cL_law 2851 = .ok (.iaload, 1) := dk_46 (dk_at dksL_law_111 22 rfl rfl)
theorem dL_law_2852 : decode cL_law 2852 = .ok (.invokevirtual 361, 3) := dk_182 1 105 (dk_at dksL_law_112 0 rfl rfl)
theorem dL_law_2855 : decode cL_law 2855 = .ok (.istore 7, 2) := dk_54 7 (dk_at dksL_law_112 3 rfl rfl)
theorem dL_law_2857 : decode cL_law 2857 = .ok (.aload_n 2, 1) := dk_44 (dk_at dksL_law_112 5 rfl rfl)
theorem dL_law_2858 : decode cL_law 2858 = .ok (.invokevirtual 185, 3) := dk_182 0 185 (dk_at dksL_law_112 6 rfl rfl)
theorem dL_law_2861 : decode cL_law 2861 = .ok (.iload 6, 2) := dk_21 6 (dk_at dksL_law_112 9 rfl rfl)
theorem dL_law_2863 : decode cL_law 2863 = .ok (.if_icmp .eq 5, 3) := dk_159 0 5 (dk_at dksL_law_112 11 rfl rfl)
theorem dL_law_2866 : decode cL_law 2866 = .ok (.iconst 0, 1) := dk_3 (dk_at dksL_law_112 14 rfl rfl)
theorem dL_law_2867 : decode cL_law 2867 = .ok (.ireturn, 1) := dk_172 (dk_at dksL_law_112 15 rfl rfl)
theorem dL_law_2868 : decode cL_law 2868 = .ok (.iload 6, 2) := dk_21 6 (dk_at dksL_law_112 16 rfl rfl)
theorem dL_law_2870 : decode cL_law 2870 = .ok (.ifCond .ne 15, 3) := dk_154 0 15 (dk_at dksL_law_112 18 rfl rfl)
theorem dL_law_2873 : decode cL_law 2873 = .ok (.aload_n 3, 1) := dk_45 (dk_at dksL_law_112 21 rfl rfl)
theorem dL_law_2874 : decode cL_law 2874 = .ok (.iconst 0, 1) := dk_3 (dk_at dksL_law_112 22 rfl rfl)
theorem dL_law_2875 : decode cL_law 2875 = .ok (.laload, 1) := dk_47 (dk_at dksL_law_112 23 rfl rfl)
theorem dL_law_2876 : decode cL_law 2876 = .ok (.iload 7, 2) := dk_21 7 (dk_at dksL_law_113 0 rfl rfl)
theorem dL_law_2878 : decode cL_law 2878 = .ok (.i2l, 1) := dk_133 (dk_at dksL_law_113 2 rfl rfl)
theorem dL_law_2879 : decode cL_law 2879 = .ok (.lcmp, 1) := dk_148 (dk_at dksL_law_113 3 rfl rfl)
theorem dL_law_2880 : decode cL_law 2880 = .ok (.ifCond .eq 5, 3) := dk_153 0 5 (dk_at dksL_law_113 4 rfl rfl)
theorem dL_law_2883 : decode cL_law 2883 = .ok (.iconst 0, 1) := dk_3 (dk_at dksL_law_113 7 rfl rfl)
theorem dL_law_2884 : decode cL_law 2884 = .ok (.ireturn, 1) := dk_172 (dk_at dksL_law_113 8 rfl rfl)
theorem dL_law_2885 : decode cL_law 2885 = .ok (.goto 438, 3) := dk_167 1 182 (dk_at dksL_law_113 9 rfl rfl)
theorem dL_law_2888 : decode cL_law 2888 = .ok (.aload_n 1, 1) := dk_43 (dk_at dksL_law_113 12 rfl rfl)
theorem dL_law_2889 : decode cL_law 2889 = .ok (.aload_n 0, 1) := dk_42 (dk_at dksL_law_113 13 rfl rfl)
theorem dL_law_2890 : decode cL_law 2890 = .ok (.iload 5, 2) := dk_21 5 (dk_at dksL_law_113 14 rfl rfl)
theorem dL_law_2892 : decode cL_law 2892 = .ok (.iconst 1, 1) := dk_4 (dk_at dksL_law_113 16 rfl rfl)
theorem dL_law_2893 : decode cL_law 2893 = .ok (.iadd, 1) := dk_96 (dk_at dksL_law_113 17 rfl rfl)
theorem dL_law_2894 : decode cL_law 2894 = .ok (.iaload, 1) := dk_46 (dk_at dksL_law_113 18 rfl rfl)
theorem dL_law_2895 : decode cL_law 2895 = .ok (.aload_n 3, 1) := dk_45 (dk_at dksL_law_113 19 rfl rfl)
theorem dL_law_2896 : decode cL_law 2896 = .ok (.invokestatic 362, 3) := dk_184 1 106 (dk_at dksL_law_113 20 rfl rfl)
theorem dL_law_2899 : decode cL_law 2899 = .ok (.istore 6, 2) := dk_54 6 (dk_at dksL_law_114 0 rfl rfl)
theorem dL_law_2901 : decode cL_law 2901 = .ok (.aload_n 2, 1) := dk_44 (dk_at dksL_law_114 2 rfl rfl)
theorem dL_law_2902 : decode cL_law 2902 = .ok (.aload_n 0, 1) := dk_42 (dk_at dksL_law_114 3 rfl rfl)
theorem dL_law_2903 : decode cL_law 2903 = .ok (.iload 5, 2) := dk_21 5 (dk_at dksL_law_114 4 rfl rfl)
theorem dL_law_2905 : decode cL_law 2905 = .ok (.iconst 1, 1) := dk_4 (dk_at dksL_law_114 6 rfl rfl)
theorem dL_law_2906 : decode cL_law 2906 = .ok (.iadd, 1) := dk_96 (dk_at dksL_law_114 7 rfl rfl)
theorem dL_law_2907 : decode cL_law 2907 = .ok (.iaload, 1) := dk_46 (dk_at dksL_law_114 8 rfl rfl)
theorem dL_law_2908 : decode cL_law 2908 = .ok (.invokevirtual 364, 3) := dk_182 1 108 (dk_at dksL_law_114 9 rfl rfl)
theorem dL_law_2911 : decode cL_law 2911 = .ok (.istore 7, 2) := dk_54 7 (dk_at dksL_law_114 12 rfl rfl)
theorem dL_law_2913 : decode cL_law 2913 = .ok (.aload_n 2, 1) := dk_44 (dk_at dksL_law_114 14 rfl rfl)
theorem dL_law_2914 : decode cL_law 2914 = .ok (.invokevirtual 185, 3) := dk_182 0 185 (dk_at dksL_law_114 15 rfl rfl)
theorem dL_law_2917 : decode cL_law 2917 = .ok (.iload 6, 2) := dk_21 6 (dk_at dksL_law_114 18 rfl rfl)
theorem dL_law_2919 : decode cL_law 2919 = .ok (.if_icmp .eq 5, 3) := dk_159 0 5 (dk_at dksL_law_114 20 rfl rfl)
theorem dL_law_2922 : decode cL_law 2922 = .ok (.iconst 0, 1) := dk_3 (dk_at dksL_law_114 23 rfl rfl)
theorem dL_law_2923 : decode cL_law 2923 = .ok (.ireturn, 1) := dk_172 (dk_at dksL_law_115 0 rfl rfl)
theorem dL_law_2924 : decode cL_law 2924 = .ok (.iload 6, 2) := dk_21 6 (dk_at dksL_law_115 1 rfl rfl)
theorem dL_law_2926 : decode cL_law 2926 = .ok (.ifCond .ne 15, 3) := dk_154 0 15 (dk_at dksL_law_115 3 rfl rfl)
theorem dL_law_2929 : decode cL_law 2929 = .ok (.aload_n 3, 1) := dk_45 (dk_at dksL_law_115 6 rfl rfl)
theorem dL_law_2930 : decode cL_law 2930 = .ok (.iconst 0, 1) := dk_3 (dk_at dksL_law_115 7 rfl rfl)
theorem dL_law_2931 : decode cL_law 2931 = .ok (.laload, 1) := dk_47 (dk_at dksL_law_115 8 rfl rfl)
theorem dL_law_2932 : decode cL_law 2932 = .ok (.iload 7, 2) := dk_21 7 (dk_at dksL_law_115 9 rfl rfl)
theorem dL_law_2934 : decode cL_law 2934 = .ok (.i2l, 1) := dk_133 (dk_at dksL_law_115 11 rfl rfl)
theorem dL_law_2935 : decode cL_law 2935 = .ok (.lcmp, 1) := dk_148 (dk_at dksL_law_115 12 rfl rfl)
theorem dL_law_2936 : decode cL_law 2936 = .ok (.ifCond .eq 5, 3) := dk_153 0 5 (dk_at dksL_law_115 13 rfl rfl)
theorem dL_law_2939 : decode cL_law 2939 = .ok (.iconst 0, 1) := dk_3 (dk_at dksL_law_115 16 rfl rfl)
theorem dL_law_2940 : decode cL_law 2940 = .ok (.ireturn, 1) := dk_172 (dk_at dksL_law_115 17 rfl rfl)
theorem dL_law_2941 : decode cL_law 2941 = .ok (.goto 382, 3) := dk_167 1 126 (dk_at dksL_law_115 18 rfl rfl)
theorem dL_law_2944 : decode cL_law 2944 = .ok (.aload_n 1, 1) := dk_43 (dk_at dksL_law_115 21 rfl rfl)
theorem dL_law_2945 : decode cL_law 2945 = .ok (.aload_n 0, 1) := dk_42 (dk_at dksL_law_115 22 rfl rfl)
theorem dL_law_2946 : decode cL_law 2946 = .ok (.iload 5, 2) := dk_21 5 (dk_at dksL_law_116 0 rfl rfl)
theorem dL_law_2948 : decode cL_law 2948 = .ok (.iconst 1, 1) := dk_4 (dk_at dksL_law_116 2 rfl rfl)
theorem dL_law_2949 : decode cL_law 2949 = .ok (.iadd, 1) := dk_96 (dk_at dksL_law_116 3 rfl rfl)
theorem dL_law_2950 : decode cL_law 2950 = .ok (.iaload, 1) := dk_46 (dk_at dksL_law_116 4 rfl rfl)
theorem dL_law_2951 : decode cL_law 2951 = .ok (.i2c, 1) := dk_146 (dk_at dksL_law_116 5 rfl rfl)
theorem dL_law_2952 : decode cL_law 2952 = .ok (.aload_n 3, 1) := dk_45 (dk_at dksL_law_116 6 rfl rfl)
theorem dL_law_2953 : decode cL_law 2953 = .ok (.invokestatic 365, 3) := dk_184 1 109 (dk_at dksL_law_116 7 rfl rfl)
theorem dL_law_2956 : decode cL_law 2956 = .ok (.istore 6, 2) := dk_54 6 (dk_at dksL_law_116 10 rfl rfl)
theorem dL_law_2958 : decode cL_law 2958 = .ok (.aload_n 2, 1) := dk_44 (dk_at dksL_law_116 12 rfl rfl)
theorem dL_law_2959 : decode cL_law 2959 = .ok (.aload_n 0, 1) := dk_42 (dk_at dksL_law_116 13 rfl rfl)
theorem dL_law_2960 : decode cL_law 2960 = .ok (.iload 5, 2) := dk_21 5 (dk_at dksL_law_116 14 rfl rfl)
theorem dL_law_2962 : decode cL_law 2962 = .ok (.iconst 1, 1) := dk_4 (dk_at dksL_law_116 16 rfl rfl)
theorem dL_law_2963 : decode cL_law 2963 = .ok (.iadd, 1) := dk_96 (dk_at dksL_law_116 17 rfl rfl)
theorem dL_law_2964 : decode cL_law 2964 = .ok (.iaload, 1) := dk_46 (dk_at dksL_law_116 18 rfl rfl)
theorem dL_law_2965 : decode cL_law 2965 = .ok (.i2c, 1) := dk_146 (dk_at dksL_law_116 19 rfl rfl)
theorem dL_law_2966 : decode cL_law 2966 = .ok (.invokevirtual 368, 3) := dk_182 1 112 (dk_at dksL_law_116 20 rfl rfl)
theorem dL_law_2969 : decode cL_law 2969 = .ok (.istore 7, 2) := dk_54 7 (dk_at dksL_law_117 0 rfl rfl)
theorem dL_law_2971 : decode cL_law 2971 = .ok (.aload_n 2, 1) := dk_44 (dk_at dksL_law_117 2 rfl rfl)
theorem dL_law_2972 : decode cL_law 2972 = .ok (.invokevirtual 185, 3) := dk_182 0 185 (dk_at dksL_law_117 3 rfl rfl)
theorem dL_law_2975 : decode cL_law 2975 = .ok (.iload 6, 2) := dk_21 6 (dk_at dksL_law_117 6 rfl rfl)
theorem dL_law_2977 : decode cL_law 2977 = .ok (.if_icmp .eq 5, 3) := dk_159 0 5 (dk_at dksL_law_117 8 rfl rfl)
theorem dL_law_2980 : decode cL_law 2980 = .ok (.iconst 0, 1) := dk_3 (dk_at dksL_law_117 11 rfl rfl)
theorem dL_law_2981 : decode cL_law 2981 = .ok (.ireturn, 1) := dk_172 (dk_at dksL_law_117 12 rfl rfl)
theorem dL_law_2982 : decode cL_law 2982 = .ok (.iload 6, 2) := dk_21 6 (dk_at dksL_law_117 13 rfl rfl)
theorem dL_law_2984 : decode cL_law 2984 = .ok (.ifCond .ne 15, 3) := dk_154 0 15 (dk_at dksL_law_117 15 rfl rfl)
theorem dL_law_2987 : decode cL_law 2987 = .ok (.aload_n 3, 1) := dk_45 (dk_at dksL_law_117 18 rfl rfl)
theorem dL_law_2988 : decode cL_law 2988 = .ok (.iconst 0, 1) := dk_3 (dk_at dksL_law_117 19 rfl rfl)
theorem dL_law_2989 : decode cL_law 2989 = .ok (.laload, 1) := dk_47 (dk_at dksL_law_117 20 rfl rfl)
theorem dL_law_2990 : decode cL_law 2990 = .ok (.iload 7, 2) := dk_21 7 (dk_at dksL_law_117 21 rfl rfl)
theorem dL_law_2992 : decode cL_law 2992 = .ok (.i2l, 1) := dk_133 (dk_at dksL_law_117 23 rfl rfl)
theorem dL_law_2993 : decode cL_law 2993 = .ok (.lcmp, 1) := dk_148 (dk_at dksL_law_118 0 rfl rfl)
theorem dL_law_2994 : decode cL_law 2994 = .ok (.ifCond .eq 5, 3) := dk_153 0 5 (dk_at dksL_law_118 1 rfl rfl)
theorem dL_law_2997 : decode cL_law 2997 = .ok (.iconst 0, 1) := dk_3 (dk_at dksL_law_118 4 rfl rfl)
theorem dL_law_2998 : decode cL_law 2998 = .ok (.ireturn, 1) := dk_172 (dk_at dksL_law_118 5 rfl rfl)
theorem dL_law_2999 : decode cL_law 2999 = .ok (.goto 324, 3) := dk_167 1 68 (dk_at dksL_law_118 6 rfl rfl)
theorem dL_law_3002 : decode cL_law 3002 = .ok (.aload_n 1, 1) := dk_43 (dk_at dksL_law_118 9 rfl rfl)
theorem dL_law_3003 : decode cL_law 3003 = .ok (.aload_n 3, 1) := dk_45 (dk_at dksL_law_118 10 rfl rfl)
theorem dL_law_3004 : decode cL_law 3004 = .ok (.invokestatic 369, 3) := dk_184 1 113 (dk_at dksL_law_118 11 rfl rfl)
theorem dL_law_3007 : decode cL_law 3007 = .ok (.istore 6, 2) := dk_54 6 (dk_at dksL_law_118 14 rfl rfl)
theorem dL_law_3009 : decode cL_law 3009 = .ok (.aload_n 2, 1) := dk_44 (dk_at dksL_law_118 16 rfl rfl)
theorem dL_law_3010 : decode cL_law 3010 = .ok (.invokevirtual 372, 3) := dk_182 1 116 (dk_at dksL_law_118 17 rfl rfl)
theorem dL_law_3013 : decode cL_law 3013 = .ok (.istore 7, 2) := dk_54 7 (dk_at dksL_law_118 20 rfl rfl)
theorem dL_law_3015 : decode cL_law 3015 = .ok (.aload_n 2, 1) := dk_44 (dk_at dksL_law_118 22 rfl rfl)
theorem dL_law_3016 : decode cL_law 3016 = .ok (.invokevirtual 185, 3) := dk_182 0 185 (dk_at dksL_law_119 0 rfl rfl)
theorem dL_law_3019 : decode cL_law 3019 = .ok (.iload 6, 2) := dk_21 6 (dk_at dksL_law_119 3 rfl rfl)
theorem dL_law_3021 : decode cL_law 3021 = .ok (.if_icmp .eq 5, 3) := dk_159 0 5 (dk_at dksL_law_119 5 rfl rfl)
theorem dL_law_3024 : decode cL_law 3024 = .ok (.iconst 0, 1) := dk_3 (dk_at dksL_law_119 8 rfl rfl)
theorem dL_law_3025 : decode cL_law 3025 = .ok (.ireturn, 1) := dk_172 (dk_at dksL_law_119 9 rfl rfl)
theorem dL_law_3026 : decode cL_law 3026 = .ok (.iload 6, 2) := dk_21 6 (dk_at dksL_law_119 10 rfl rfl)
theorem dL_law_3028 : decode cL_law 3028 = .ok (.ifCond .ne 15, 3) := dk_154 0 15 (dk_at dksL_law_119 12 rfl rfl)
theorem dL_law_3031 : decode cL_law 3031 = .ok (.aload_n 3, 1) := dk_45 (dk_at dksL_law_119 15 rfl rfl)
theorem dL_law_3032 : decode cL_law 3032 = .ok (.iconst 0, 1) := dk_3 (dk_at dksL_law_119 16 rfl rfl)
theorem dL_law_3033 : decode cL_law 3033 = .ok (.laload, 1) := dk_47 (dk_at dksL_law_119 17 rfl rfl)
theorem dL_law_3034 : decode cL_law 3034 = .ok (.iload 7, 2) := dk_21 7 (dk_at dksL_law_119 18 rfl rfl)
theorem dL_law_3036 : decode cL_law 3036 = .ok (.i2l, 1) := dk_133 (dk_at dksL_law_119 20 rfl rfl)
theorem dL_law_3037 : decode cL_law 3037 = .ok (.lcmp, 1) := dk_148 (dk_at dksL_law_119 21 rfl rfl)
theorem dL_law_3038 : decode cL_law 3038 = .ok (.ifCond .eq 5, 3) := dk_153 0 5 (dk_at dksL_law_120 0 rfl rfl)
theorem dL_law_3041 : decode cL_law 3041 = .ok (.iconst 0, 1) := dk_3 (dk_at dksL_law_120 3 rfl rfl)
theorem dL_law_3042 : decode cL_law 3042 = .ok (.ireturn, 1) := dk_172 (dk_at dksL_law_120 4 rfl rfl)
theorem dL_law_3043 : decode cL_law 3043 = .ok (.goto 280, 3) := dk_167 1 24 (dk_at dksL_law_120 5 rfl rfl)
theorem dL_law_3046 : decode cL_law 3046 = .ok (.aload_n 1, 1) := dk_43 (dk_at dksL_law_120 8 rfl rfl)
theorem dL_law_3047 : decode cL_law 3047 = .ok (.aload_n 3, 1) := dk_45 (dk_at dksL_law_120 9 rfl rfl)
theorem dL_law_3048 : decode cL_law 3048 = .ok (.invokestatic 373, 3) := dk_184 1 117 (dk_at dksL_law_120 10 rfl rfl)
theorem dL_law_3051 : decode cL_law 3051 = .ok (.istore 6, 2) := dk_54 6 (dk_at dksL_law_120 13 rfl rfl)
theorem dL_law_3053 : decode cL_law 3053 = .ok (.aload_n 2, 1) := dk_44 (dk_at dksL_law_120 15 rfl rfl)
theorem dL_law_3054 : decode cL_law 3054 = .ok (.invokevirtual 375, 3) := dk_182 1 119 (dk_at dksL_law_120 16 rfl rfl)
theorem dL_law_3057 : decode cL_law 3057 = .ok (.istore 7, 2) := dk_54 7 (dk_at dksL_law_120 19 rfl rfl)
theorem dL_law_3059 : decode cL_law 3059 = .ok (.aload_n 2, 1) := dk_44 (dk_at dksL_law_120 21 rfl rfl)
theorem dL_law_3060 : decode cL_law 3060 = .ok (.invokevirtual 185, 3) := dk_182 0 185 (dk_at dksL_law_121 0 rfl rfl)
theorem dL_law_3063 : decode cL_law 3063 = .ok (.iload 6, 2) := dk_21 6 (dk_at dksL_law_121 3 rfl rfl)
theorem dL_law_3065 : decode cL_law 3065 = .ok (.if_icmp .eq 5, 3) := dk_159 0 5 (dk_at dksL_law_121 5 rfl rfl)
theorem dL_law_3068 : decode cL_law 3068 = .ok (.iconst 0, 1) := dk_3 (dk_at dksL_law_121 8 rfl rfl)
theorem dL_law_3069 : decode cL_law 3069 = .ok (.ireturn, 1) := dk_172 (dk_at dksL_law_121 9 rfl rfl)
theorem dL_law_3070 : decode cL_law 3070 = .ok (.iload 6, 2) := dk_21 6 (dk_at dksL_law_121 10 rfl rfl)
theorem dL_law_3072 : decode cL_law 3072 = .ok (.ifCond .ne 15, 3) := dk_154 0 15 (dk_at dksL_law_121 12 rfl rfl)
theorem dL_law_3075 : decode cL_law 3075 = .ok (.aload_n 3, 1) := dk_45 (dk_at dksL_law_121 15 rfl rfl)
theorem dL_law_3076 : decode cL_law 3076 = .ok (.iconst 0, 1) := dk_3 (dk_at dksL_law_121 16 rfl rfl)
theorem dL_law_3077 : decode cL_law 3077 = .ok (.laload, 1) := dk_47 (dk_at dksL_law_121 17 rfl rfl)
theorem dL_law_3078 : decode cL_law 3078 = .ok (.iload 7, 2) := dk_21 7 (dk_at dksL_law_121 18 rfl rfl)
theorem dL_law_3080 : decode cL_law 3080 = .ok (.i2l, 1) := dk_133 (dk_at dksL_law_121 20 rfl rfl)
theorem dL_law_3081 : decode cL_law 3081 = .ok (.lcmp, 1) := dk_148 (dk_at dksL_law_121 21 rfl rfl)
theorem dL_law_3082 : decode cL_law 3082 = .ok (.ifCond .eq 5, 3) := dk_153 0 5 (dk_at dksL_law_122 0 rfl rfl)
theorem dL_law_3085 : decode cL_law 3085 = .ok (.iconst 0, 1) := dk_3 (dk_at dksL_law_122 3 rfl rfl)
theorem dL_law_3086 : decode cL_law 3086 = .ok (.ireturn, 1) := dk_172 (dk_at dksL_law_122 4 rfl rfl)
theorem dL_law_3087 : decode cL_law 3087 = .ok (.goto 236, 3) := dk_167 0 236 (dk_at dksL_law_122 5 rfl rfl)
theorem dL_law_3090 : decode cL_law 3090 = .ok (.aload_n 1, 1) := dk_43 (dk_at dksL_law_122 8 rfl rfl)
theorem dL_law_3091 : decode cL_law 3091 = .ok (.aload_n 3, 1) := dk_45 (dk_at dksL_law_122 9 rfl rfl)
theorem dL_law_3092 : decode cL_law 3092 = .ok (.invokestatic 376, 3) := dk_184 1 120 (dk_at dksL_law_122 10 rfl rfl)
theorem dL_law_3095 : decode cL_law 3095 = .ok (.istore 6, 2) := dk_54 6 (dk_at dksL_law_122 13 rfl rfl)
theorem dL_law_3097 : decode cL_law 3097 = .ok (.aload_n 2, 1) := dk_44 (dk_at dksL_law_122 15 rfl rfl)
theorem dL_law_3098 : decode cL_law 3098 = .ok (.invokevirtual 378, 3) := dk_182 1 122 (dk_at dksL_law_122 16 rfl rfl)
theorem dL_law_3101 : decode cL_law 3101 = .ok (.istore 7, 2) := dk_54 7 (dk_at dksL_law_122 19 rfl rfl)
theorem dL_law_3103 : decode cL_law 3103 = .ok (.aload_n 2, 1) := dk_44 (dk_at dksL_law_122 21 rfl rfl)
theorem dL_law_3104 : decode cL_law 3104 = .ok (.invokevirtual 185, 3) := dk_182 0 185 (dk_at dksL_law_123 0 rfl rfl)
theorem dL_law_3107 : decode cL_law 3107 = .ok (.iload 6, 2) := dk_21 6 (dk_at dksL_law_123 3 rfl rfl)
theorem dL_law_3109 : decode cL_law 3109 = .ok (.if_icmp .eq 5, 3) := dk_159 0 5 (dk_at dksL_law_123 5 rfl rfl)
theorem dL_law_3112 : decode cL_law 3112 = .ok (.iconst 0, 1) := dk_3 (dk_at dksL_law_123 8 rfl rfl)
theorem dL_law_3113 : decode cL_law 3113 = .ok (.ireturn, 1) := dk_172 (dk_at dksL_law_123 9 rfl rfl)
theorem dL_law_3114 : decode cL_law 3114 = .ok (.iload 6, 2) := dk_21 6 (dk_at dksL_law_123 10 rfl rfl)
theorem dL_law_3116 : decode cL_law 3116 = .ok (.ifCond .ne 15, 3) := dk_154 0 15 (dk_at dksL_law_123 12 rfl rfl)
theorem dL_law_3119 : decode cL_law 3119 = .ok (.aload_n 3, 1) := dk_45 (dk_at dksL_law_123 15 rfl rfl)
theorem dL_law_3120 : decode cL_law 3120 = .ok (.iconst 0, 1) := dk_3 (dk_at dksL_law_123 16 rfl rfl)
theorem dL_law_3121 : decode cL_law 3121 = .ok (.laload, 1) := dk_47 (dk_at dksL_law_123 17 rfl rfl)
theorem dL_law_3122 : decode cL_law 3122 = .ok (.iload 7, 2) := dk_21 7 (dk_at dksL_law_123 18 rfl rfl)
theorem dL_law_3124 : decode cL_law 3124 = .ok (.i2l, 1) := dk_133 (dk_at dksL_law_123 20 rfl rfl)
theorem dL_law_3125 : decode cL_law 3125 = .ok (.lcmp, 1) := dk_148 (dk_at dksL_law_123 21 rfl rfl)
theorem dL_law_3126 : decode cL_law 3126 = .ok (.ifCond .eq 5, 3) := dk_153 0 5 (dk_at dksL_law_124 0 rfl rfl)
theorem dL_law_3129 : decode cL_law 3129 = .ok (.iconst 0, 1) := dk_3 (dk_at dksL_law_124 3 rfl rfl)
theorem dL_law_3130 : decode cL_law 3130 = .ok (.ireturn, 1) := dk_172 (dk_at dksL_law_124 4 rfl rfl)
theorem dL_law_3131 : decode cL_law 3131 = .ok (.goto 192, 3) := dk_167 0 192 (dk_at dksL_law_124 5 rfl rfl)
theorem dL_law_3134 : decode cL_law 3134 = .ok (.aload_n 1, 1) := dk_43 (dk_at dksL_law_124 8 rfl rfl)
theorem dL_law_3135 : decode cL_law 3135 = .ok (.aload_n 3, 1) := dk_45 (dk_at dksL_law_124 9 rfl rfl)
theorem dL_law_3136 : decode cL_law 3136 = .ok (.invokestatic 379, 3) := dk_184 1 123 (dk_at dksL_law_124 10 rfl rfl)
theorem dL_law_3139 : decode cL_law 3139 = .ok (.istore 6, 2) := dk_54 6 (dk_at dksL_law_124 13 rfl rfl)
theorem dL_law_3141 : decode cL_law 3141 = .ok (.aload_n 2, 1) := dk_44 (dk_at dksL_law_124 15 rfl rfl)
theorem dL_law_3142 : decode cL_law 3142 = .ok (.invokevirtual 381, 3) := dk_182 1 125 (dk_at dksL_law_124 16 rfl rfl)
theorem dL_law_3145 : decode cL_law 3145 = .ok (.istore 7, 2) := dk_54 7 (dk_at dksL_law_124 19 rfl rfl)
theorem dL_law_3147 : decode cL_law 3147 = .ok (.aload_n 2, 1) := dk_44 (dk_at dksL_law_124 21 rfl rfl)
theorem dL_law_3148 : decode cL_law 3148 = .ok (.invokevirtual 185, 3) := dk_182 0 185 (dk_at dksL_law_125 0 rfl rfl)
theorem dL_law_3151 : decode cL_law 3151 = .ok (.iload 6, 2) := dk_21 6 (dk_at dksL_law_125 3 rfl rfl)
theorem dL_law_3153 : decode cL_law 3153 = .ok (.if_icmp .eq 5, 3) := dk_159 0 5 (dk_at dksL_law_125 5 rfl rfl)
theorem dL_law_3156 : decode cL_law 3156 = .ok (.iconst 0, 1) := dk_3 (dk_at dksL_law_125 8 rfl rfl)
theorem dL_law_3157 : decode cL_law 3157 = .ok (.ireturn, 1) := dk_172 (dk_at dksL_law_125 9 rfl rfl)
theorem dL_law_3158 : decode cL_law 3158 = .ok (.iload 6, 2) := dk_21 6 (dk_at dksL_law_125 10 rfl rfl)
theorem dL_law_3160 : decode cL_law 3160 = .ok (.ifCond .ne 15, 3) := dk_154 0 15 (dk_at dksL_law_125 12 rfl rfl)
theorem dL_law_3163 : decode cL_law 3163 = .ok (.aload_n 3, 1) := dk_45 (dk_at dksL_law_125 15 rfl rfl)
theorem dL_law_3164 : decode cL_law 3164 = .ok (.iconst 0, 1) := dk_3 (dk_at dksL_law_125 16 rfl rfl)
theorem dL_law_3165 : decode cL_law 3165 = .ok (.laload, 1) := dk_47 (dk_at dksL_law_125 17 rfl rfl)
theorem dL_law_3166 : decode cL_law 3166 = .ok (.iload 7, 2) := dk_21 7 (dk_at dksL_law_125 18 rfl rfl)
theorem dL_law_3168 : decode cL_law 3168 = .ok (.i2l, 1) := dk_133 (dk_at dksL_law_125 20 rfl rfl)
theorem dL_law_3169 : decode cL_law 3169 = .ok (.lcmp, 1) := dk_148 (dk_at dksL_law_125 21 rfl rfl)
theorem dL_law_3170 : decode cL_law 3170 = .ok (.ifCond .eq 5, 3) := dk_153 0 5 (dk_at dksL_law_126 0 rfl rfl)
theorem dL_law_3173 : decode cL_law 3173 = .ok (.iconst 0, 1) := dk_3 (dk_at dksL_law_126 3 rfl rfl)
theorem dL_law_3174 : decode cL_law 3174 = .ok (.ireturn, 1) := dk_172 (dk_at dksL_law_126 4 rfl rfl)
theorem dL_law_3175 : decode cL_law 3175 = .ok (.goto 148, 3) := dk_167 0 148 (dk_at dksL_law_126 5 rfl rfl)
theorem dL_law_3178 : decode cL_law 3178 = .ok (.aload_n 1, 1) := dk_43 (dk_at dksL_law_126 8 rfl rfl)
theorem dL_law_3179 : decode cL_law 3179 = .ok (.aload_n 3, 1) := dk_45 (dk_at dksL_law_126 9 rfl rfl)
theorem dL_law_3180 : decode cL_law 3180 = .ok (.invokestatic 382, 3) := dk_184 1 126 (dk_at dksL_law_126 10 rfl rfl)
theorem dL_law_3183 : decode cL_law 3183 = .ok (.istore 6, 2) := dk_54 6 (dk_at dksL_law_126 13 rfl rfl)
theorem dL_law_3185 : decode cL_law 3185 = .ok (.aload_n 2, 1) := dk_44 (dk_at dksL_law_126 15 rfl rfl)
theorem dL_law_3186 : decode cL_law 3186 = .ok (.invokevirtual 384, 3) := dk_182 1 128 (dk_at dksL_law_126 16 rfl rfl)
theorem dL_law_3189 : decode cL_law 3189 = .ok (.istore 7, 2) := dk_54 7 (dk_at dksL_law_126 19 rfl rfl)
theorem dL_law_3191 : decode cL_law 3191 = .ok (.aload_n 2, 1) := dk_44 (dk_at dksL_law_126 21 rfl rfl)
theorem dL_law_3192 : decode cL_law 3192 = .ok (.invokevirtual 185, 3) := dk_182 0 185 (dk_at dksL_law_127 0 rfl rfl)
theorem dL_law_3195 : decode cL_law 3195 = .ok (.iload 6, 2) := dk_21 6 (dk_at dksL_law_127 3 rfl rfl)
theorem dL_law_3197 : decode cL_law 3197 = .ok (.if_icmp .eq 5, 3) := dk_159 0 5 (dk_at dksL_law_127 5 rfl rfl)
theorem dL_law_3200 : decode cL_law 3200 = .ok (.iconst 0, 1) := dk_3 (dk_at dksL_law_127 8 rfl rfl)
theorem dL_law_3201 : decode cL_law 3201 = .ok (.ireturn, 1) := dk_172 (dk_at dksL_law_127 9 rfl rfl)
theorem dL_law_3202 : decode cL_law 3202 = .ok (.iload 6, 2) := dk_21 6 (dk_at dksL_law_127 10 rfl rfl)
theorem dL_law_3204 : decode cL_law 3204 = .ok (.ifCond .ne 15, 3) := dk_154 0 15 (dk_at dksL_law_127 12 rfl rfl)
theorem dL_law_3207 : decode cL_law 3207 = .ok (.aload_n 3, 1) := dk_45 (dk_at dksL_law_127 15 rfl rfl)
theorem dL_law_3208 : decode cL_law 3208 = .ok (.iconst 0, 1) := dk_3 (dk_at dksL_law_127 16 rfl rfl)
theorem dL_law_3209 : decode cL_law 3209 = .ok (.laload, 1) := dk_47 (dk_at dksL_law_127 17 rfl rfl)
theorem dL_law_3210 : decode cL_law 3210 = .ok (.iload 7, 2) := dk_21 7 (dk_at dksL_law_127 18 rfl rfl)
theorem dL_law_3212 : decode cL_law 3212 = .ok (.i2l, 1) := dk_133 (dk_at dksL_law_127 20 rfl rfl)
theorem dL_law_3213 : decode cL_law 3213 = .ok (.lcmp, 1) := dk_148 (dk_at dksL_law_127 21 rfl rfl)
theorem dL_law_3214 : decode cL_law 3214 = .ok (.ifCond .eq 5, 3) := dk_153 0 5 (dk_at dksL_law_128 0 rfl rfl)
theorem dL_law_3217 : decode cL_law 3217 = .ok (.iconst 0, 1) := dk_3 (dk_at dksL_law_128 3 rfl rfl)
theorem dL_law_3218 : decode cL_law 3218 = .ok (.ireturn, 1) := dk_172 (dk_at dksL_law_128 4 rfl rfl)
theorem dL_law_3219 : decode cL_law 3219 = .ok (.goto 104, 3) := dk_167 0 104 (dk_at dksL_law_128 5 rfl rfl)
theorem dL_law_3222 : decode cL_law 3222 = .ok (.aload_n 1, 1) := dk_43 (dk_at dksL_law_128 8 rfl rfl)
theorem dL_law_3223 : decode cL_law 3223 = .ok (.aload_n 3, 1) := dk_45 (dk_at dksL_law_128 9 rfl rfl)
theorem dL_law_3224 : decode cL_law 3224 = .ok (.invokestatic 385, 3) := dk_184 1 129 (dk_at dksL_law_128 10 rfl rfl)
theorem dL_law_3227 : decode cL_law 3227 = .ok (.istore 6, 2) := dk_54 6 (dk_at dksL_law_128 13 rfl rfl)
theorem dL_law_3229 : decode cL_law 3229 = .ok (.aload_n 2, 1) := dk_44 (dk_at dksL_law_128 15 rfl rfl)
theorem dL_law_3230 : decode cL_law 3230 = .ok (.invokevirtual 387, 3) := dk_182 1 131 (dk_at dksL_law_128 16 rfl rfl)
theorem dL_law_3233 : decode cL_law 3233 = .ok (.istore 7, 2) := dk_54 7 (dk_at dksL_law_128 19 rfl rfl)
theorem dL_law_3235 : decode cL_law 3235 = .ok (.aload_n 2, 1) := dk_44 (dk_at dksL_law_128 21 rfl rfl)
theorem dL_law_3236 : decode cL_law 3236 = .ok (.invokevirtual 185, 3) := dk_182 0 185 (dk_at dksL_law_129 0 rfl rfl)
theorem dL_law_3239 : decode cL_law 3239 = .ok (.iload 6, 2) := dk_21 6 (dk_at dksL_law_129 3 rfl rfl)
theorem dL_law_3241 : decode cL_law 3241 = .ok (.if_icmp .eq 5, 3) := dk_159 0 5 (dk_at dksL_law_129 5 rfl rfl)
theorem dL_law_3244 : decode cL_law 3244 = .ok (.iconst 0, 1) := dk_3 (dk_at dksL_law_129 8 rfl rfl)
theorem dL_law_3245 : decode cL_law 3245 = .ok (.ireturn, 1) := dk_172 (dk_at dksL_law_129 9 rfl rfl)
theorem dL_law_3246 : decode cL_law 3246 = .ok (.iload 6, 2) := dk_21 6 (dk_at dksL_law_129 10 rfl rfl)
theorem dL_law_3248 : decode cL_law 3248 = .ok (.ifCond .ne 15, 3) := dk_154 0 15 (dk_at dksL_law_129 12 rfl rfl)
theorem dL_law_3251 : decode cL_law 3251 = .ok (.aload_n 3, 1) := dk_45 (dk_at dksL_law_129 15 rfl rfl)
theorem dL_law_3252 : decode cL_law 3252 = .ok (.iconst 0, 1) := dk_3 (dk_at dksL_law_129 16 rfl rfl)
theorem dL_law_3253 : decode cL_law 3253 = .ok (.laload, 1) := dk_47 (dk_at dksL_law_129 17 rfl rfl)
theorem dL_law_3254 : decode cL_law 3254 = .ok (.iload 7, 2) := dk_21 7 (dk_at dksL_law_129 18 rfl rfl)
theorem dL_law_3256 : decode cL_law 3256 = .ok (.i2l, 1) := dk_133 (dk_at dksL_law_129 20 rfl rfl)
theorem dL_law_3257 : decode cL_law 3257 = .ok (.lcmp, 1) := dk_148 (dk_at dksL_law_129 21 rfl rfl)
theorem dL_law_3258 : decode cL_law 3258 = .ok (.ifCond .eq 5, 3) := dk_153 0 5 (dk_at dksL_law_130 0 rfl rfl)
theorem dL_law_3261 : decode cL_law 3261 = .ok (.iconst 0, 1) := dk_3 (dk_at dksL_law_130 3 rfl rfl)
theorem dL_law_3262 : decode cL_law 3262 = .ok (.ireturn, 1) := dk_172 (dk_at dksL_law_130 4 rfl rfl)
theorem dL_law_3263 : decode cL_law 3263 = .ok (.goto 60, 3) := dk_167 0 60 (dk_at dksL_law_130 5 rfl rfl)
theorem dL_law_3266 : decode cL_law 3266 = .ok (.aload_n 1, 1) := dk_43 (dk_at dksL_law_130 8 rfl rfl)
theorem dL_law_3267 : decode cL_law 3267 = .ok (.invokevirtual 388, 3) := dk_182 1 132 (dk_at dksL_law_130 9 rfl rfl)
theorem dL_law_3270 : decode cL_law 3270 = .ok (.aload_n 2, 1) := dk_44 (dk_at dksL_law_130 12 rfl rfl)
theorem dL_law_3271 : decode cL_law 3271 = .ok (.invokevirtual 391, 3) := dk_182 1 135 (dk_at dksL_law_130 13 rfl rfl)
theorem dL_law_3274 : decode cL_law 3274 = .ok (.if_icmp .eq 49, 3) := dk_159 0 49 (dk_at dksL_law_130 16 rfl rfl)
theorem dL_law_3277 : decode cL_law 3277 = .ok (.iconst 0, 1) := dk_3 (dk_at dksL_law_130 19 rfl rfl)
theorem dL_law_3278 : decode cL_law 3278 = .ok (.ireturn, 1) := dk_172 (dk_at dksL_law_130 20 rfl rfl)
theorem dL_law_3279 : decode cL_law 3279 = .ok (.aload_n 1, 1) := dk_43 (dk_at dksL_law_130 21 rfl rfl)
theorem dL_law_3280 : decode cL_law 3280 = .ok (.aload_n 3, 1) := dk_45 (dk_at dksL_law_130 22 rfl rfl)
theorem dL_law_3281 : decode cL_law 3281 = .ok (.invokestatic 392, 3) := dk_184 1 136 (dk_at dksL_law_131 0 rfl rfl)
theorem dL_law_3284 : decode cL_law 3284 = .ok (.istore 6, 2) := dk_54 6 (dk_at dksL_law_131 3 rfl rfl)
theorem dL_law_3286 : decode cL_law 3286 = .ok (.aload_n 2, 1) := dk_44 (dk_at dksL_law_131 5 rfl rfl)
theorem dL_law_3287 : decode cL_law 3287 = .ok (.invokevirtual 394, 3) := dk_182 1 138 (dk_at dksL_law_131 6 rfl rfl)
theorem dL_law_3290 : decode cL_law 3290 = .ok (.istore 7, 2) := dk_54 7 (dk_at dksL_law_131 9 rfl rfl)
theorem dL_law_3292 : decode cL_law 3292 = .ok (.aload_n 2, 1) := dk_44 (dk_at dksL_law_131 11 rfl rfl)
theorem dL_law_3293 : decode cL_law 3293 = .ok (.invokevirtual 185, 3) := dk_182 0 185 (dk_at dksL_law_131 12 rfl rfl)
theorem dL_law_3296 : decode cL_law 3296 = .ok (.iload 6, 2) := dk_21 6 (dk_at dksL_law_131 15 rfl rfl)
theorem dL_law_3298 : decode cL_law 3298 = .ok (.if_icmp .eq 5, 3) := dk_159 0 5 (dk_at dksL_law_131 17 rfl rfl)
theorem dL_law_3301 : decode cL_law 3301 = .ok (.iconst 0, 1) := dk_3 (dk_at dksL_law_131 20 rfl rfl)
theorem dL_law_3302 : decode cL_law 3302 = .ok (.ireturn, 1) := dk_172 (dk_at dksL_law_131 21 rfl rfl)
theorem dL_law_3303 : decode cL_law 3303 = .ok (.iload 6, 2) := dk_21 6 (dk_at dksL_law_131 22 rfl rfl)
theorem dL_law_3305 : decode cL_law 3305 = .ok (.ifCond .ne 15, 3) := dk_154 0 15 (dk_at dksL_law_132 0 rfl rfl)
theorem dL_law_3308 : decode cL_law 3308 = .ok (.aload_n 3, 1) := dk_45 (dk_at dksL_law_132 3 rfl rfl)
theorem dL_law_3309 : decode cL_law 3309 = .ok (.iconst 0, 1) := dk_3 (dk_at dksL_law_132 4 rfl rfl)
theorem dL_law_3310 : decode cL_law 3310 = .ok (.laload, 1) := dk_47 (dk_at dksL_law_132 5 rfl rfl)
theorem dL_law_3311 : decode cL_law 3311 = .ok (.iload 7, 2) := dk_21 7 (dk_at dksL_law_132 6 rfl rfl)
theorem dL_law_3313 : decode cL_law 3313 = .ok (.i2l, 1) := dk_133 (dk_at dksL_law_132 8 rfl rfl)
theorem dL_law_3314 : decode cL_law 3314 = .ok (.lcmp, 1) := dk_148 (dk_at dksL_law_132 9 rfl rfl)
theorem dL_law_3315 : decode cL_law 3315 = .ok (.ifCond .eq 5, 3) := dk_153 0 5 (dk_at dksL_law_132 10 rfl rfl)
theorem dL_law_3318 : decode cL_law 3318 = .ok (.iconst 0, 1) := dk_3 (dk_at dksL_law_132 13 rfl rfl)
theorem dL_law_3319 : decode cL_law 3319 = .ok (.ireturn, 1) := dk_172 (dk_at dksL_law_132 14 rfl rfl)
theorem dL_law_3320 : decode cL_law 3320 = .ok (.goto 3, 3) := dk_167 0 3 (dk_at dksL_law_132 15 rfl rfl)
theorem dL_law_3323 : decode cL_law 3323 = .ok (.iinc 5 4, 3) := dk_132 5 4 (dk_at dksL_law_132 18 rfl rfl)
theorem dL_law_3326 : decode cL_law 3326 = .ok (.goto (-3298), 3) := dk_167 243 30 (dk_at dksL_law_132 21 rfl rfl)
theorem dL_law_3329 : decode cL_law 3329 = .ok (.iconst 1, 1) := dk_4 (dk_at dksL_law_133 0 rfl rfl)
theorem dL_law_3330 : decode cL_law 3330 = .ok (.ireturn, 1) := dk_172 (dk_at dksL_law_133 1 rfl rfl)
