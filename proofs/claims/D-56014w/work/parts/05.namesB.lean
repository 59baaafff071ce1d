/-! BenchBroker -/
set_option maxRecDepth 100000
def RX1 : String := "BenchBroker"
def TX1 : u_T := fun k => match k with
  | 0 => ("BenchBroker", "park", "LBenchBroker$Park;", false)
  | 1 => ("BenchBroker", "snapshot", "LBenchBroker$Park;", false)
  | 2 => ("BenchBroker", "history", "Ljava/util/ArrayList;", true)
  | 3 => ("BenchBroker", "input", "Ljava/lang/StringBuilder;", true)
  | 4 => ("BenchBroker", "output", "Ljava/lang/String;", false)
  | 5 => ("BenchBroker", "syntaxError", "LBenchBroker$SyntaxError;", false)
  | _ => ("BenchBroker", "rejection", "LBenchBroker$Rejection;", false)
def tyX1 : Nat → FieldType := fun k => match k with
  | 0 => .object "BenchBroker$Park"
  | 1 => .object "BenchBroker$Park"
  | 2 => .object "java/util/ArrayList"
  | 3 => .object "java/lang/StringBuilder"
  | 4 => .object "java/lang/String"
  | 5 => .object "BenchBroker$SyntaxError"
  | _ => .object "BenchBroker$Rejection"
abbrev wsX10 : List Cond := u_ws RX1 TX1 7
theorem nmX1 : ∀ a, a < 7 → ∀ b, b < 7 → a ≠ b → (TX1 a).2.1 ≠ (TX1 b).2.1 := by decide +kernel
theorem tyX1_ok : ∀ k, k < 7 → parseFieldDescriptor (TX1 k).2.2.1 = some (tyX1 k) := by decide +kernel
abbrev cX1_init : ByteArray := prog_1_method_20_code
def yX1_init : MethodName := ⟨RX1, "<init>", "()V"⟩
def dkwX1_init_1 : List UInt8 := [181, 0, 125, 42, 187, 0, 129, 89, 183, 0, 131, 181, 0, 132, 42, 18, 136, 181, 0, 138, 177]
abbrev dktX1_init_1 : List UInt8 := dkwX1_init_1 ++ []
def dkwX1_init_0 : List UInt8 := [42, 183, 0, 114, 42, 187, 0, 117, 89, 183, 0, 119, 181, 0, 120, 42, 187, 0, 89, 89, 183, 0, 124]
abbrev dktX1_init_0 : List UInt8 := dkwX1_init_0 ++ dktX1_init_1
theorem dksX1_init_0 : cX1_init.data.toList.drop 0 = dktX1_init_0 := by decide +kernel
theorem dksX1_init_1 : cX1_init.data.toList.drop 23 = dktX1_init_1 := dk_seg dksX1_init_0 23 rfl rfl
theorem dX1_init_0 : decode cX1_init 0 = .ok (.aload_n 0, 1) := dk_42 (dk_at dksX1_init_0 0 rfl rfl)
theorem dX1_init_1 : decode cX1_init 1 = .ok (.invokespecial 114, 3) := dk_183 0 114 (dk_at dksX1_init_0 1 rfl rfl)
theorem dX1_init_4 : decode cX1_init 4 = .ok (.aload_n 0, 1) := dk_42 (dk_at dksX1_init_0 4 rfl rfl)
theorem dX1_init_5 : decode cX1_init 5 = .ok (.new 117, 3) := dk_187 0 117 (dk_at dksX1_init_0 5 rfl rfl)
theorem dX1_init_8 : decode cX1_init 8 = .ok (.dup, 1) := dk_89 (dk_at dksX1_init_0 8 rfl rfl)
theorem dX1_init_9 : decode cX1_init 9 = .ok (.invokespecial 119, 3) := dk_183 0 119 (dk_at dksX1_init_0 9 rfl rfl)
theorem dX1_init_12 : decode cX1_init 12 = .ok (.putfield 120, 3) := dk_181 0 120 (dk_at dksX1_init_0 12 rfl rfl)
theorem dX1_init_15 : decode cX1_init 15 = .ok (.aload_n 0, 1) := dk_42 (dk_at dksX1_init_0 15 rfl rfl)
theorem dX1_init_16 : decode cX1_init 16 = .ok (.new 89, 3) := dk_187 0 89 (dk_at dksX1_init_0 16 rfl rfl)
theorem dX1_init_19 : decode cX1_init 19 = .ok (.dup, 1) := dk_89 (dk_at dksX1_init_0 19 rfl rfl)
theorem dX1_init_20 : decode cX1_init 20 = .ok (.invokespecial 124, 3) := dk_183 0 124 (dk_at dksX1_init_0 20 rfl rfl)
theorem dX1_init_23 : decode cX1_init 23 = .ok (.putfield 125, 3) := dk_181 0 125 (dk_at dksX1_init_1 0 rfl rfl)
theorem dX1_init_26 : decode cX1_init 26 = .ok (.aload_n 0, 1) := dk_42 (dk_at dksX1_init_1 3 rfl rfl)
theorem dX1_init_27 : decode cX1_init 27 = .ok (.new 129, 3) := dk_187 0 129 (dk_at dksX1_init_1 4 rfl rfl)
theorem dX1_init_30 : decode cX1_init 30 = .ok (.dup, 1) := dk_89 (dk_at dksX1_init_1 7 rfl rfl)
theorem dX1_init_31 : decode cX1_init 31 = .ok (.invokespecial 131, 3) := dk_183 0 131 (dk_at dksX1_init_1 8 rfl rfl)
theorem dX1_init_34 : decode cX1_init 34 = .ok (.putfield 132, 3) := dk_181 0 132 (dk_at dksX1_init_1 11 rfl rfl)
theorem dX1_init_37 : decode cX1_init 37 = .ok (.aload_n 0, 1) := dk_42 (dk_at dksX1_init_1 14 rfl rfl)
theorem dX1_init_38 : decode cX1_init 38 = .ok (.ldc 136, 2) := dk_18 136 (dk_at dksX1_init_1 15 rfl rfl)
theorem dX1_init_40 : decode cX1_init 40 = .ok (.putfield 138, 3) := dk_181 0 138 (dk_at dksX1_init_1 17 rfl rfl)
theorem dX1_init_43 : decode cX1_init 43 = .ok (.return_, 1) := dk_177 (dk_at dksX1_init_1 20 rfl rfl)
abbrev cX1_benchCount : ByteArray := prog_1_method_35_code
def yX1_benchCount : MethodName := ⟨RX1, "benchCount", "()I"⟩
def dkwX1_benchCount_0 : List UInt8 := [42, 180, 0, 120, 180, 0, 168, 182, 0, 30, 172]
abbrev dktX1_benchCount_0 : List UInt8 := dkwX1_benchCount_0 ++ []
theorem dksX1_benchCount_0 : cX1_benchCount.data.toList.drop 0 = dktX1_benchCount_0 := by decide +kernel
theorem dX1_benchCount_0 : decode cX1_benchCount 0 = .ok (.aload_n 0, 1) := dk_42 (dk_at dksX1_benchCount_0 0 rfl rfl)
theorem dX1_benchCount_1 : decode cX1_benchCount 1 = .ok (.getfield 120, 3) := dk_180 0 120 (dk_at dksX1_benchCount_0 1 rfl rfl)
theorem dX1_benchCount_4 : decode cX1_benchCount 4 = .ok (.getfield 168, 3) := dk_180 0 168 (dk_at dksX1_benchCount_0 4 rfl rfl)
theorem dX1_benchCount_7 : decode cX1_benchCount 7 = .ok (.invokevirtual 30, 3) := dk_182 0 30 (dk_at dksX1_benchCount_0 7 rfl rfl)
theorem dX1_benchCount_10 : decode cX1_benchCount 10 = .ok (.ireturn, 1) := dk_172 (dk_at dksX1_benchCount_0 10 rfl rfl)
abbrev cX1_fountainCount : ByteArray := prog_1_method_40_code
def yX1_fountainCount : MethodName := ⟨RX1, "fountainCount", "()I"⟩
def dkwX1_fountainCount_0 : List UInt8 := [42, 180, 0, 120, 180, 0, 180, 182, 0, 30, 172]
abbrev dktX1_fountainCount_0 : List UInt8 := dkwX1_fountainCount_0 ++ []
theorem dksX1_fountainCount_0 : cX1_fountainCount.data.toList.drop 0 = dktX1_fountainCount_0 := by decide +kernel
theorem dX1_fountainCount_0 : decode cX1_fountainCount 0 = .ok (.aload_n 0, 1) := dk_42 (dk_at dksX1_fountainCount_0 0 rfl rfl)
theorem dX1_fountainCount_1 : decode cX1_fountainCount 1 = .ok (.getfield 120, 3) := dk_180 0 120 (dk_at dksX1_fountainCount_0 1 rfl rfl)
theorem dX1_fountainCount_4 : decode cX1_fountainCount 4 = .ok (.getfield 180, 3) := dk_180 0 180 (dk_at dksX1_fountainCount_0 4 rfl rfl)
theorem dX1_fountainCount_7 : decode cX1_fountainCount 7 = .ok (.invokevirtual 30, 3) := dk_182 0 30 (dk_at dksX1_fountainCount_0 7 rfl rfl)
theorem dX1_fountainCount_10 : decode cX1_fountainCount 10 = .ok (.ireturn, 1) := dk_172 (dk_at dksX1_fountainCount_0 10 rfl rfl)
abbrev cX1_noiseLimit : ByteArray := prog_1_method_43_code
def yX1_noiseLimit : MethodName := ⟨RX1, "noiseLimit", "()I"⟩
def dkwX1_noiseLimit_0 : List UInt8 := [42, 180, 0, 120, 180, 1, 4, 172]
abbrev dktX1_noiseLimit_0 : List UInt8 := dkwX1_noiseLimit_0 ++ []
theorem dksX1_noiseLimit_0 : cX1_noiseLimit.data.toList.drop 0 = dktX1_noiseLimit_0 := by decide +kernel
theorem dX1_noiseLimit_0 : decode cX1_noiseLimit 0 = .ok (.aload_n 0, 1) := dk_42 (dk_at dksX1_noiseLimit_0 0 rfl rfl)
theorem dX1_noiseLimit_1 : decode cX1_noiseLimit 1 = .ok (.getfield 120, 3) := dk_180 0 120 (dk_at dksX1_noiseLimit_0 1 rfl rfl)
theorem dX1_noiseLimit_4 : decode cX1_noiseLimit 4 = .ok (.getfield 260, 3) := dk_180 1 4 (dk_at dksX1_noiseLimit_0 4 rfl rfl)
theorem dX1_noiseLimit_7 : decode cX1_noiseLimit 7 = .ok (.ireturn, 1) := dk_172 (dk_at dksX1_noiseLimit_0 7 rfl rfl)
abbrev cX1_quietCount : ByteArray := prog_1_method_47_code
def yX1_quietCount : MethodName := ⟨RX1, "quietCount", "()I"⟩
def dkwX1_quietCount_0 : List UInt8 := [42, 180, 0, 120, 182, 1, 17, 172]
abbrev dktX1_quietCount_0 : List UInt8 := dkwX1_quietCount_0 ++ []
theorem dksX1_quietCount_0 : cX1_quietCount.data.toList.drop 0 = dktX1_quietCount_0 := by decide +kernel
theorem dX1_quietCount_0 : decode cX1_quietCount 0 = .ok (.aload_n 0, 1) := dk_42 (dk_at dksX1_quietCount_0 0 rfl rfl)
theorem dX1_quietCount_1 : decode cX1_quietCount 1 = .ok (.getfield 120, 3) := dk_180 0 120 (dk_at dksX1_quietCount_0 1 rfl rfl)
theorem dX1_quietCount_4 : decode cX1_quietCount 4 = .ok (.invokevirtual 273, 3) := dk_182 1 17 (dk_at dksX1_quietCount_0 4 rfl rfl)
theorem dX1_quietCount_7 : decode cX1_quietCount 7 = .ok (.ireturn, 1) := dk_172 (dk_at dksX1_quietCount_0 7 rfl rfl)
abbrev cX1_asInt : ByteArray := prog_1_method_9_code
def yX1_asInt : MethodName := ⟨RX1, "asInt", "(Z)I"⟩
def dkwX1_asInt_0 : List UInt8 := [26, 153, 0, 7, 4, 167, 0, 4, 3, 172]
abbrev dktX1_asInt_0 : List UInt8 := dkwX1_asInt_0 ++ []
theorem dksX1_asInt_0 : cX1_asInt.data.toList.drop 0 = dktX1_asInt_0 := by decide +kernel
theorem dX1_asInt_0 : decode cX1_asInt 0 = .ok (.iload_n 0, 1) := dk_26 (dk_at dksX1_asInt_0 0 rfl rfl)
theorem dX1_asInt_1 : decode cX1_asInt 1 = .ok (.ifCond .eq 7, 3) := dk_153 0 7 (dk_at dksX1_asInt_0 1 rfl rfl)
theorem dX1_asInt_4 : decode cX1_asInt 4 = .ok (.iconst 1, 1) := dk_4 (dk_at dksX1_asInt_0 4 rfl rfl)
theorem dX1_asInt_5 : decode cX1_asInt 5 = .ok (.goto 4, 3) := dk_167 0 4 (dk_at dksX1_asInt_0 5 rfl rfl)
theorem dX1_asInt_8 : decode cX1_asInt 8 = .ok (.iconst 0, 1) := dk_3 (dk_at dksX1_asInt_0 8 rfl rfl)
theorem dX1_asInt_9 : decode cX1_asInt 9 = .ok (.ireturn, 1) := dk_172 (dk_at dksX1_asInt_0 9 rfl rfl)
abbrev cX1_tenantCount : ByteArray := prog_1_method_50_code
def yX1_tenantCount : MethodName := ⟨RX1, "tenantCount", "()I"⟩
def dkwX1_tenantCount_0 : List UInt8 := [42, 180, 0, 120, 180, 0, 185, 182, 0, 30, 172]
abbrev dktX1_tenantCount_0 : List UInt8 := dkwX1_tenantCount_0 ++ []
theorem dksX1_tenantCount_0 : cX1_tenantCount.data.toList.drop 0 = dktX1_tenantCount_0 := by decide +kernel
theorem dX1_tenantCount_0 : decode cX1_tenantCount 0 = .ok (.aload_n 0, 1) := dk_42 (dk_at dksX1_tenantCount_0 0 rfl rfl)
theorem dX1_tenantCount_1 : decode cX1_tenantCount 1 = .ok (.getfield 120, 3) := dk_180 0 120 (dk_at dksX1_tenantCount_0 1 rfl rfl)
theorem dX1_tenantCount_4 : decode cX1_tenantCount 4 = .ok (.getfield 185, 3) := dk_180 0 185 (dk_at dksX1_tenantCount_0 4 rfl rfl)
theorem dX1_tenantCount_7 : decode cX1_tenantCount 7 = .ok (.invokevirtual 30, 3) := dk_182 0 30 (dk_at dksX1_tenantCount_0 7 rfl rfl)
theorem dX1_tenantCount_10 : decode cX1_tenantCount 10 = .ok (.ireturn, 1) := dk_172 (dk_at dksX1_tenantCount_0 10 rfl rfl)
abbrev cX1_month : ByteArray := prog_1_method_65_code
def yX1_month : MethodName := ⟨RX1, "month", "()I"⟩
def dkwX1_month_0 : List UInt8 := [42, 180, 0, 120, 180, 1, 69, 172]
abbrev dktX1_month_0 : List UInt8 := dkwX1_month_0 ++ []
theorem dksX1_month_0 : cX1_month.data.toList.drop 0 = dktX1_month_0 := by decide +kernel
theorem dX1_month_0 : decode cX1_month 0 = .ok (.aload_n 0, 1) := dk_42 (dk_at dksX1_month_0 0 rfl rfl)
theorem dX1_month_1 : decode cX1_month 1 = .ok (.getfield 120, 3) := dk_180 0 120 (dk_at dksX1_month_0 1 rfl rfl)
theorem dX1_month_4 : decode cX1_month 4 = .ok (.getfield 325, 3) := dk_180 1 69 (dk_at dksX1_month_0 4 rfl rfl)
theorem dX1_month_7 : decode cX1_month 7 = .ok (.ireturn, 1) := dk_172 (dk_at dksX1_month_0 7 rfl rfl)
abbrev cX1_brokerCoins : ByteArray := prog_1_method_68_code
def yX1_brokerCoins : MethodName := ⟨RX1, "brokerCoins", "()I"⟩
def dkwX1_brokerCoins_0 : List UInt8 := [42, 180, 0, 120, 180, 1, 78, 172]
abbrev dktX1_brokerCoins_0 : List UInt8 := dkwX1_brokerCoins_0 ++ []
theorem dksX1_brokerCoins_0 : cX1_brokerCoins.data.toList.drop 0 = dktX1_brokerCoins_0 := by decide +kernel
theorem dX1_brokerCoins_0 : decode cX1_brokerCoins 0 = .ok (.aload_n 0, 1) := dk_42 (dk_at dksX1_brokerCoins_0 0 rfl rfl)
theorem dX1_brokerCoins_1 : decode cX1_brokerCoins 1 = .ok (.getfield 120, 3) := dk_180 0 120 (dk_at dksX1_brokerCoins_0 1 rfl rfl)
theorem dX1_brokerCoins_4 : decode cX1_brokerCoins 4 = .ok (.getfield 334, 3) := dk_180 1 78 (dk_at dksX1_brokerCoins_0 4 rfl rfl)
theorem dX1_brokerCoins_7 : decode cX1_brokerCoins 7 = .ok (.ireturn, 1) := dk_172 (dk_at dksX1_brokerCoins_0 7 rfl rfl)
abbrev cX1_depositTotal : ByteArray := prog_1_method_69_code
def yX1_depositTotal : MethodName := ⟨RX1, "depositTotal", "()I"⟩
def dkwX1_depositTotal_0 : List UInt8 := [42, 180, 0, 120, 182, 1, 81, 172]
abbrev dktX1_depositTotal_0 : List UInt8 := dkwX1_depositTotal_0 ++ []
theorem dksX1_depositTotal_0 : cX1_depositTotal.data.toList.drop 0 = dktX1_depositTotal_0 := by decide +kernel
theorem dX1_depositTotal_0 : decode cX1_depositTotal 0 = .ok (.aload_n 0, 1) := dk_42 (dk_at dksX1_depositTotal_0 0 rfl rfl)
theorem dX1_depositTotal_1 : decode cX1_depositTotal 1 = .ok (.getfield 120, 3) := dk_180 0 120 (dk_at dksX1_depositTotal_0 1 rfl rfl)
theorem dX1_depositTotal_4 : decode cX1_depositTotal 4 = .ok (.invokevirtual 337, 3) := dk_182 1 81 (dk_at dksX1_depositTotal_0 4 rfl rfl)
theorem dX1_depositTotal_7 : decode cX1_depositTotal 7 = .ok (.ireturn, 1) := dk_172 (dk_at dksX1_depositTotal_0 7 rfl rfl)
abbrev cX1_allCoins : ByteArray := prog_1_method_70_code
def yX1_allCoins : MethodName := ⟨RX1, "allCoins", "()I"⟩
def dkwX1_allCoins_0 : List UInt8 := [42, 180, 0, 120, 182, 1, 84, 172]
abbrev dktX1_allCoins_0 : List UInt8 := dkwX1_allCoins_0 ++ []
theorem dksX1_allCoins_0 : cX1_allCoins.data.toList.drop 0 = dktX1_allCoins_0 := by decide +kernel
theorem dX1_allCoins_0 : decode cX1_allCoins 0 = .ok (.aload_n 0, 1) := dk_42 (dk_at dksX1_allCoins_0 0 rfl rfl)
theorem dX1_allCoins_1 : decode cX1_allCoins 1 = .ok (.getfield 120, 3) := dk_180 0 120 (dk_at dksX1_allCoins_0 1 rfl rfl)
theorem dX1_allCoins_4 : decode cX1_allCoins 4 = .ok (.invokevirtual 340, 3) := dk_182 1 84 (dk_at dksX1_allCoins_0 4 rfl rfl)
theorem dX1_allCoins_7 : decode cX1_allCoins 7 = .ok (.ireturn, 1) := dk_172 (dk_at dksX1_allCoins_0 7 rfl rfl)
abbrev cX1_allCoinsGiven : ByteArray := prog_1_method_71_code
def yX1_allCoinsGiven : MethodName := ⟨RX1, "allCoinsGiven", "()I"⟩
def dkwX1_allCoinsGiven_0 : List UInt8 := [42, 180, 0, 120, 180, 1, 87, 172]
abbrev dktX1_allCoinsGiven_0 : List UInt8 := dkwX1_allCoinsGiven_0 ++ []
theorem dksX1_allCoinsGiven_0 : cX1_allCoinsGiven.data.toList.drop 0 = dktX1_allCoinsGiven_0 := by decide +kernel
theorem dX1_allCoinsGiven_0 : decode cX1_allCoinsGiven 0 = .ok (.aload_n 0, 1) := dk_42 (dk_at dksX1_allCoinsGiven_0 0 rfl rfl)
theorem dX1_allCoinsGiven_1 : decode cX1_allCoinsGiven 1 = .ok (.getfield 120, 3) := dk_180 0 120 (dk_at dksX1_allCoinsGiven_0 1 rfl rfl)
theorem dX1_allCoinsGiven_4 : decode cX1_allCoinsGiven 4 = .ok (.getfield 343, 3) := dk_180 1 87 (dk_at dksX1_allCoinsGiven_0 4 rfl rfl)
theorem dX1_allCoinsGiven_7 : decode cX1_allCoinsGiven 7 = .ok (.ireturn, 1) := dk_172 (dk_at dksX1_allCoinsGiven_0 7 rfl rfl)
abbrev cX1_defaultedLeases : ByteArray := prog_1_method_72_code
def yX1_defaultedLeases : MethodName := ⟨RX1, "defaultedLeases", "()I"⟩
def dkwX1_defaultedLeases_0 : List UInt8 := [42, 180, 0, 120, 180, 1, 90, 172]
abbrev dktX1_defaultedLeases_0 : List UInt8 := dkwX1_defaultedLeases_0 ++ []
theorem dksX1_defaultedLeases_0 : cX1_defaultedLeases.data.toList.drop 0 = dktX1_defaultedLeases_0 := by decide +kernel
theorem dX1_defaultedLeases_0 : decode cX1_defaultedLeases 0 = .ok (.aload_n 0, 1) := dk_42 (dk_at dksX1_defaultedLeases_0 0 rfl rfl)
theorem dX1_defaultedLeases_1 : decode cX1_defaultedLeases 1 = .ok (.getfield 120, 3) := dk_180 0 120 (dk_at dksX1_defaultedLeases_0 1 rfl rfl)
theorem dX1_defaultedLeases_4 : decode cX1_defaultedLeases 4 = .ok (.getfield 346, 3) := dk_180 1 90 (dk_at dksX1_defaultedLeases_0 4 rfl rfl)
theorem dX1_defaultedLeases_7 : decode cX1_defaultedLeases 7 = .ok (.ireturn, 1) := dk_172 (dk_at dksX1_defaultedLeases_0 7 rfl rfl)
abbrev cX1_terminatedLeases : ByteArray := prog_1_method_73_code
def yX1_terminatedLeases : MethodName := ⟨RX1, "terminatedLeases", "()I"⟩
def dkwX1_terminatedLeases_0 : List UInt8 := [42, 180, 0, 120, 180, 1, 93, 172]
abbrev dktX1_terminatedLeases_0 : List UInt8 := dkwX1_terminatedLeases_0 ++ []
theorem dksX1_terminatedLeases_0 : cX1_terminatedLeases.data.toList.drop 0 = dktX1_terminatedLeases_0 := by decide +kernel
theorem dX1_terminatedLeases_0 : decode cX1_terminatedLeases 0 = .ok (.aload_n 0, 1) := dk_42 (dk_at dksX1_terminatedLeases_0 0 rfl rfl)
theorem dX1_terminatedLeases_1 : decode cX1_terminatedLeases 1 = .ok (.getfield 120, 3) := dk_180 0 120 (dk_at dksX1_terminatedLeases_0 1 rfl rfl)
theorem dX1_terminatedLeases_4 : decode cX1_terminatedLeases 4 = .ok (.getfield 349, 3) := dk_180 1 93 (dk_at dksX1_terminatedLeases_0 4 rfl rfl)
theorem dX1_terminatedLeases_7 : decode cX1_terminatedLeases 7 = .ok (.ireturn, 1) := dk_172 (dk_at dksX1_terminatedLeases_0 7 rfl rfl)
abbrev cX1_completedLeases : ByteArray := prog_1_method_74_code
def yX1_completedLeases : MethodName := ⟨RX1, "completedLeases", "()I"⟩
def dkwX1_completedLeases_0 : List UInt8 := [42, 180, 0, 120, 180, 1, 96, 172]
abbrev dktX1_completedLeases_0 : List UInt8 := dkwX1_completedLeases_0 ++ []
theorem dksX1_completedLeases_0 : cX1_completedLeases.data.toList.drop 0 = dktX1_completedLeases_0 := by decide +kernel
theorem dX1_completedLeases_0 : decode cX1_completedLeases 0 = .ok (.aload_n 0, 1) := dk_42 (dk_at dksX1_completedLeases_0 0 rfl rfl)
theorem dX1_completedLeases_1 : decode cX1_completedLeases 1 = .ok (.getfield 120, 3) := dk_180 0 120 (dk_at dksX1_completedLeases_0 1 rfl rfl)
theorem dX1_completedLeases_4 : decode cX1_completedLeases 4 = .ok (.getfield 352, 3) := dk_180 1 96 (dk_at dksX1_completedLeases_0 4 rfl rfl)
theorem dX1_completedLeases_7 : decode cX1_completedLeases 7 = .ok (.ireturn, 1) := dk_172 (dk_at dksX1_completedLeases_0 7 rfl rfl)
abbrev cX1_isConsistent : ByteArray := prog_1_method_79_code
def yX1_isConsistent : MethodName := ⟨RX1, "isConsistent", "()Z"⟩
def dkwX1_isConsistent_0 : List UInt8 := [42, 180, 0, 120, 182, 1, 117, 172]
abbrev dktX1_isConsistent_0 : List UInt8 := dkwX1_isConsistent_0 ++ []
theorem dksX1_isConsistent_0 : cX1_isConsistent.data.toList.drop 0 = dktX1_isConsistent_0 := by decide +kernel
theorem dX1_isConsistent_0 : decode cX1_isConsistent 0 = .ok (.aload_n 0, 1) := dk_42 (dk_at dksX1_isConsistent_0 0 rfl rfl)
theorem dX1_isConsistent_1 : decode cX1_isConsistent 1 = .ok (.getfield 120, 3) := dk_180 0 120 (dk_at dksX1_isConsistent_0 1 rfl rfl)
theorem dX1_isConsistent_4 : decode cX1_isConsistent 4 = .ok (.invokevirtual 373, 3) := dk_182 1 117 (dk_at dksX1_isConsistent_0 4 rfl rfl)
theorem dX1_isConsistent_7 : decode cX1_isConsistent 7 = .ok (.ireturn, 1) := dk_172 (dk_at dksX1_isConsistent_0 7 rfl rfl)
abbrev cX1_isBetween : ByteArray := prog_1_method_1_code
def yX1_isBetween : MethodName := ⟨RX1, "isBetween", "(III)Z"⟩
def dkwX1_isBetween_0 : List UInt8 := [26, 27, 161, 0, 12, 26, 28, 163, 0, 7, 4, 167, 0, 4, 3, 172]
abbrev dktX1_isBetween_0 : List UInt8 := dkwX1_isBetween_0 ++ []
theorem dksX1_isBetween_0 : cX1_isBetween.data.toList.drop 0 = dktX1_isBetween_0 := by decide +kernel
theorem dX1_isBetween_0 : decode cX1_isBetween 0 = .ok (.iload_n 0, 1) := dk_26 (dk_at dksX1_isBetween_0 0 rfl rfl)
theorem dX1_isBetween_1 : decode cX1_isBetween 1 = .ok (.iload_n 1, 1) := dk_27 (dk_at dksX1_isBetween_0 1 rfl rfl)
theorem dX1_isBetween_2 : decode cX1_isBetween 2 = .ok (.if_icmp .lt 12, 3) := dk_161 0 12 (dk_at dksX1_isBetween_0 2 rfl rfl)
theorem dX1_isBetween_5 : decode cX1_isBetween 5 = .ok (.iload_n 0, 1) := dk_26 (dk_at dksX1_isBetween_0 5 rfl rfl)
theorem dX1_isBetween_6 : decode cX1_isBetween 6 = .ok (.iload_n 2, 1) := dk_28 (dk_at dksX1_isBetween_0 6 rfl rfl)
theorem dX1_isBetween_7 : decode cX1_isBetween 7 = .ok (.if_icmp .gt 7, 3) := dk_163 0 7 (dk_at dksX1_isBetween_0 7 rfl rfl)
theorem dX1_isBetween_10 : decode cX1_isBetween 10 = .ok (.iconst 1, 1) := dk_4 (dk_at dksX1_isBetween_0 10 rfl rfl)
theorem dX1_isBetween_11 : decode cX1_isBetween 11 = .ok (.goto 4, 3) := dk_167 0 4 (dk_at dksX1_isBetween_0 11 rfl rfl)
theorem dX1_isBetween_14 : decode cX1_isBetween 14 = .ok (.iconst 0, 1) := dk_3 (dk_at dksX1_isBetween_0 14 rfl rfl)
theorem dX1_isBetween_15 : decode cX1_isBetween 15 = .ok (.ireturn, 1) := dk_172 (dk_at dksX1_isBetween_0 15 rfl rfl)
abbrev cX1_copyBench : ByteArray := prog_1_method_18_code
def yX1_copyBench : MethodName := ⟨RX1, "copyBench", "(LBenchBroker$Bench;LBenchBroker$Register;)V"⟩
def dkwX1_copyBench_2 : List UInt8 := [182, 0, 84, 177]
abbrev dktX1_copyBench_2 : List UInt8 := dkwX1_copyBench_2 ++ []
def dkwX1_copyBench_1 : List UInt8 := [180, 0, 74, 181, 0, 74, 44, 42, 180, 0, 78, 181, 0, 78, 44, 42, 180, 0, 81, 181, 0, 81, 43, 44]
abbrev dktX1_copyBench_1 : List UInt8 := dkwX1_copyBench_1 ++ dktX1_copyBench_2
def dkwX1_copyBench_0 : List UInt8 := [187, 0, 62, 89, 42, 182, 0, 64, 42, 182, 0, 65, 42, 182, 0, 68, 183, 0, 71, 77, 44, 42]
abbrev dktX1_copyBench_0 : List UInt8 := dkwX1_copyBench_0 ++ dktX1_copyBench_1
theorem dksX1_copyBench_0 : cX1_copyBench.data.toList.drop 0 = dktX1_copyBench_0 := by decide +kernel
theorem dksX1_copyBench_1 : cX1_copyBench.data.toList.drop 22 = dktX1_copyBench_1 := dk_seg dksX1_copyBench_0 22 rfl rfl
theorem dksX1_copyBench_2 : cX1_copyBench.data.toList.drop 46 = dktX1_copyBench_2 := dk_seg dksX1_copyBench_1 24 rfl rfl
theorem dX1_copyBench_0 : decode cX1_copyBench 0 = .ok (.new 62, 3) := dk_187 0 62 (dk_at dksX1_copyBench_0 0 rfl rfl)
theorem dX1_copyBench_3 : decode cX1_copyBench 3 = .ok (.dup, 1) := dk_89 (dk_at dksX1_copyBench_0 3 rfl rfl)
theorem dX1_copyBench_4 : decode cX1_copyBench 4 = .ok (.aload_n 0, 1) := dk_42 (dk_at dksX1_copyBench_0 4 rfl rfl)
theorem dX1_copyBench_5 : decode cX1_copyBench 5 = .ok (.invokevirtual 64, 3) := dk_182 0 64 (dk_at dksX1_copyBench_0 5 rfl rfl)
theorem dX1_copyBench_8 : decode cX1_copyBench 8 = .ok (.aload_n 0, 1) := dk_42 (dk_at dksX1_copyBench_0 8 rfl rfl)
theorem dX1_copyBench_9 : decode cX1_copyBench 9 = .ok (.invokevirtual 65, 3) := dk_182 0 65 (dk_at dksX1_copyBench_0 9 rfl rfl)
theorem dX1_copyBench_12 : decode cX1_copyBench 12 = .ok (.aload_n 0, 1) := dk_42 (dk_at dksX1_copyBench_0 12 rfl rfl)
theorem dX1_copyBench_13 : decode cX1_copyBench 13 = .ok (.invokevirtual 68, 3) := dk_182 0 68 (dk_at dksX1_copyBench_0 13 rfl rfl)
theorem dX1_copyBench_16 : decode cX1_copyBench 16 = .ok (.invokespecial 71, 3) := dk_183 0 71 (dk_at dksX1_copyBench_0 16 rfl rfl)
theorem dX1_copyBench_19 : decode cX1_copyBench 19 = .ok (.astore_n 2, 1) := dk_77 (dk_at dksX1_copyBench_0 19 rfl rfl)
theorem dX1_copyBench_20 : decode cX1_copyBench 20 = .ok (.aload_n 2, 1) := dk_44 (dk_at dksX1_copyBench_0 20 rfl rfl)
theorem dX1_copyBench_21 : decode cX1_copyBench 21 = .ok (.aload_n 0, 1) := dk_42 (dk_at dksX1_copyBench_0 21 rfl rfl)
theorem dX1_copyBench_22 : decode cX1_copyBench 22 = .ok (.getfield 74, 3) := dk_180 0 74 (dk_at dksX1_copyBench_1 0 rfl rfl)
theorem dX1_copyBench_25 : decode cX1_copyBench 25 = .ok (.putfield 74, 3) := dk_181 0 74 (dk_at dksX1_copyBench_1 3 rfl rfl)
theorem dX1_copyBench_28 : decode cX1_copyBench 28 = .ok (.aload_n 2, 1) := dk_44 (dk_at dksX1_copyBench_1 6 rfl rfl)
theorem dX1_copyBench_29 : decode cX1_copyBench 29 = .ok (.aload_n 0, 1) := dk_42 (dk_at dksX1_copyBench_1 7 rfl rfl)
theorem dX1_copyBench_30 : decode cX1_copyBench 30 = .ok (.getfield 78, 3) := dk_180 0 78 (dk_at dksX1_copyBench_1 8 rfl rfl)
theorem dX1_copyBench_33 : decode cX1_copyBench 33 = .ok (.putfield 78, 3) := dk_181 0 78 (dk_at dksX1_copyBench_1 11 rfl rfl)
theorem dX1_copyBench_36 : decode cX1_copyBench 36 = .ok (.aload_n 2, 1) := dk_44 (dk_at dksX1_copyBench_1 14 rfl rfl)
theorem dX1_copyBench_37 : decode cX1_copyBench 37 = .ok (.aload_n 0, 1) := dk_42 (dk_at dksX1_copyBench_1 15 rfl rfl)
theorem dX1_copyBench_38 : decode cX1_copyBench 38 = .ok (.getfield 81, 3) := dk_180 0 81 (dk_at dksX1_copyBench_1 16 rfl rfl)
theorem dX1_copyBench_41 : decode cX1_copyBench 41 = .ok (.putfield 81, 3) := dk_181 0 81 (dk_at dksX1_copyBench_1 19 rfl rfl)
theorem dX1_copyBench_44 : decode cX1_copyBench 44 = .ok (.aload_n 1, 1) := dk_43 (dk_at dksX1_copyBench_1 22 rfl rfl)
theorem dX1_copyBench_45 : decode cX1_copyBench 45 = .ok (.aload_n 2, 1) := dk_44 (dk_at dksX1_copyBench_1 23 rfl rfl)
theorem dX1_copyBench_46 : decode cX1_copyBench 46 = .ok (.invokevirtual 84, 3) := dk_182 0 84 (dk_at dksX1_copyBench_2 0 rfl rfl)
theorem dX1_copyBench_49 : decode cX1_copyBench 49 = .ok (.return_, 1) := dk_177 (dk_at dksX1_copyBench_2 3 rfl rfl)
abbrev cX1_saveSnapshot : ByteArray := prog_1_method_91_code
def yX1_saveSnapshot : MethodName := ⟨RX1, "saveSnapshot", "()I"⟩
def dkwX1_saveSnapshot_0 : List UInt8 := [42, 42, 180, 0, 120, 182, 0, 150, 181, 1, 188, 42, 180, 1, 188, 180, 0, 168, 182, 0, 30, 172]
abbrev dktX1_saveSnapshot_0 : List UInt8 := dkwX1_saveSnapshot_0 ++ []
theorem dksX1_saveSnapshot_0 : cX1_saveSnapshot.data.toList.drop 0 = dktX1_saveSnapshot_0 := by decide +kernel
theorem dX1_saveSnapshot_0 : decode cX1_saveSnapshot 0 = .ok (.aload_n 0, 1) := dk_42 (dk_at dksX1_saveSnapshot_0 0 rfl rfl)
theorem dX1_saveSnapshot_1 : decode cX1_saveSnapshot 1 = .ok (.aload_n 0, 1) := dk_42 (dk_at dksX1_saveSnapshot_0 1 rfl rfl)
theorem dX1_saveSnapshot_2 : decode cX1_saveSnapshot 2 = .ok (.getfield 120, 3) := dk_180 0 120 (dk_at dksX1_saveSnapshot_0 2 rfl rfl)
theorem dX1_saveSnapshot_5 : decode cX1_saveSnapshot 5 = .ok (.invokevirtual 150, 3) := dk_182 0 150 (dk_at dksX1_saveSnapshot_0 5 rfl rfl)
theorem dX1_saveSnapshot_8 : decode cX1_saveSnapshot 8 = .ok (.putfield 444, 3) := dk_181 1 188 (dk_at dksX1_saveSnapshot_0 8 rfl rfl)
theorem dX1_saveSnapshot_11 : decode cX1_saveSnapshot 11 = .ok (.aload_n 0, 1) := dk_42 (dk_at dksX1_saveSnapshot_0 11 rfl rfl)
theorem dX1_saveSnapshot_12 : decode cX1_saveSnapshot 12 = .ok (.getfield 444, 3) := dk_180 1 188 (dk_at dksX1_saveSnapshot_0 12 rfl rfl)
theorem dX1_saveSnapshot_15 : decode cX1_saveSnapshot 15 = .ok (.getfield 168, 3) := dk_180 0 168 (dk_at dksX1_saveSnapshot_0 15 rfl rfl)
theorem dX1_saveSnapshot_18 : decode cX1_saveSnapshot 18 = .ok (.invokevirtual 30, 3) := dk_182 0 30 (dk_at dksX1_saveSnapshot_0 18 rfl rfl)
theorem dX1_saveSnapshot_21 : decode cX1_saveSnapshot 21 = .ok (.ireturn, 1) := dk_172 (dk_at dksX1_saveSnapshot_0 21 rfl rfl)
abbrev cX1_addBench : ByteArray := prog_1_method_29_code
def yX1_addBench : MethodName := ⟨RX1, "addBench", "(III)I"⟩
def dkwX1_addBench_1 : List UInt8 := [29, 183, 0, 221, 182, 0, 224, 172]
abbrev dktX1_addBench_1 : List UInt8 := dkwX1_addBench_1 ++ []
def dkwX1_addBench_0 : List UInt8 := [27, 28, 184, 0, 209, 184, 0, 176, 29, 184, 0, 213, 184, 0, 216, 42, 187, 0, 219, 89, 16, 98, 27, 28]
abbrev dktX1_addBench_0 : List UInt8 := dkwX1_addBench_0 ++ dktX1_addBench_1
theorem dksX1_addBench_0 : cX1_addBench.data.toList.drop 0 = dktX1_addBench_0 := by decide +kernel
theorem dksX1_addBench_1 : cX1_addBench.data.toList.drop 24 = dktX1_addBench_1 := dk_seg dksX1_addBench_0 24 rfl rfl
theorem dX1_addBench_0 : decode cX1_addBench 0 = .ok (.iload_n 1, 1) := dk_27 (dk_at dksX1_addBench_0 0 rfl rfl)
theorem dX1_addBench_1 : decode cX1_addBench 1 = .ok (.iload_n 2, 1) := dk_28 (dk_at dksX1_addBench_0 1 rfl rfl)
theorem dX1_addBench_2 : decode cX1_addBench 2 = .ok (.invokestatic 209, 3) := dk_184 0 209 (dk_at dksX1_addBench_0 2 rfl rfl)
theorem dX1_addBench_5 : decode cX1_addBench 5 = .ok (.invokestatic 176, 3) := dk_184 0 176 (dk_at dksX1_addBench_0 5 rfl rfl)
theorem dX1_addBench_8 : decode cX1_addBench 8 = .ok (.iload_n 3, 1) := dk_29 (dk_at dksX1_addBench_0 8 rfl rfl)
theorem dX1_addBench_9 : decode cX1_addBench 9 = .ok (.invokestatic 213, 3) := dk_184 0 213 (dk_at dksX1_addBench_0 9 rfl rfl)
theorem dX1_addBench_12 : decode cX1_addBench 12 = .ok (.invokestatic 216, 3) := dk_184 0 216 (dk_at dksX1_addBench_0 12 rfl rfl)
theorem dX1_addBench_15 : decode cX1_addBench 15 = .ok (.aload_n 0, 1) := dk_42 (dk_at dksX1_addBench_0 15 rfl rfl)
theorem dX1_addBench_16 : decode cX1_addBench 16 = .ok (.new 219, 3) := dk_187 0 219 (dk_at dksX1_addBench_0 16 rfl rfl)
theorem dX1_addBench_19 : decode cX1_addBench 19 = .ok (.dup, 1) := dk_89 (dk_at dksX1_addBench_0 19 rfl rfl)
theorem dX1_addBench_20 : decode cX1_addBench 20 = .ok (.bipush 98, 2) := dk_16 98 (dk_at dksX1_addBench_0 20 rfl rfl)
theorem dX1_addBench_22 : decode cX1_addBench 22 = .ok (.iload_n 1, 1) := dk_27 (dk_at dksX1_addBench_0 22 rfl rfl)
theorem dX1_addBench_23 : decode cX1_addBench 23 = .ok (.iload_n 2, 1) := dk_28 (dk_at dksX1_addBench_0 23 rfl rfl)
theorem dX1_addBench_24 : decode cX1_addBench 24 = .ok (.iload_n 3, 1) := dk_29 (dk_at dksX1_addBench_1 0 rfl rfl)
theorem dX1_addBench_25 : decode cX1_addBench 25 = .ok (.invokespecial 221, 3) := dk_183 0 221 (dk_at dksX1_addBench_1 1 rfl rfl)
theorem dX1_addBench_28 : decode cX1_addBench 28 = .ok (.invokevirtual 224, 3) := dk_182 0 224 (dk_at dksX1_addBench_1 4 rfl rfl)
theorem dX1_addBench_31 : decode cX1_addBench 31 = .ok (.ireturn, 1) := dk_172 (dk_at dksX1_addBench_1 7 rfl rfl)
abbrev cX1_isCell : ByteArray := prog_1_method_2_code
def yX1_isCell : MethodName := ⟨RX1, "isCell", "(II)Z"⟩
def dkwX1_isCell_0 : List UInt8 := [26, 3, 8, 184, 0, 3, 153, 0, 16, 27, 3, 8, 184, 0, 3, 153, 0, 7, 4, 167, 0, 4, 3, 172]
abbrev dktX1_isCell_0 : List UInt8 := dkwX1_isCell_0 ++ []
theorem dksX1_isCell_0 : cX1_isCell.data.toList.drop 0 = dktX1_isCell_0 := by decide +kernel
theorem dX1_isCell_0 : decode cX1_isCell 0 = .ok (.iload_n 0, 1) := dk_26 (dk_at dksX1_isCell_0 0 rfl rfl)
theorem dX1_isCell_1 : decode cX1_isCell 1 = .ok (.iconst 0, 1) := dk_3 (dk_at dksX1_isCell_0 1 rfl rfl)
theorem dX1_isCell_2 : decode cX1_isCell 2 = .ok (.iconst 5, 1) := dk_8 (dk_at dksX1_isCell_0 2 rfl rfl)
theorem dX1_isCell_3 : decode cX1_isCell 3 = .ok (.invokestatic 3, 3) := dk_184 0 3 (dk_at dksX1_isCell_0 3 rfl rfl)
theorem dX1_isCell_6 : decode cX1_isCell 6 = .ok (.ifCond .eq 16, 3) := dk_153 0 16 (dk_at dksX1_isCell_0 6 rfl rfl)
theorem dX1_isCell_9 : decode cX1_isCell 9 = .ok (.iload_n 1, 1) := dk_27 (dk_at dksX1_isCell_0 9 rfl rfl)
theorem dX1_isCell_10 : decode cX1_isCell 10 = .ok (.iconst 0, 1) := dk_3 (dk_at dksX1_isCell_0 10 rfl rfl)
theorem dX1_isCell_11 : decode cX1_isCell 11 = .ok (.iconst 5, 1) := dk_8 (dk_at dksX1_isCell_0 11 rfl rfl)
theorem dX1_isCell_12 : decode cX1_isCell 12 = .ok (.invokestatic 3, 3) := dk_184 0 3 (dk_at dksX1_isCell_0 12 rfl rfl)
theorem dX1_isCell_15 : decode cX1_isCell 15 = .ok (.ifCond .eq 7, 3) := dk_153 0 7 (dk_at dksX1_isCell_0 15 rfl rfl)
theorem dX1_isCell_18 : decode cX1_isCell 18 = .ok (.iconst 1, 1) := dk_4 (dk_at dksX1_isCell_0 18 rfl rfl)
theorem dX1_isCell_19 : decode cX1_isCell 19 = .ok (.goto 4, 3) := dk_167 0 4 (dk_at dksX1_isCell_0 19 rfl rfl)
theorem dX1_isCell_22 : decode cX1_isCell 22 = .ok (.iconst 0, 1) := dk_3 (dk_at dksX1_isCell_0 22 rfl rfl)
theorem dX1_isCell_23 : decode cX1_isCell 23 = .ok (.ireturn, 1) := dk_172 (dk_at dksX1_isCell_0 23 rfl rfl)
abbrev cX1_requireIndex : ByteArray := prog_1_method_10_code
def yX1_requireIndex : MethodName := ⟨RX1, "requireIndex", "(Z)V"⟩
def dkwX1_requireIndex_0 : List UInt8 := [26, 154, 0, 11, 187, 0, 7, 89, 183, 0, 9, 191, 177]
abbrev dktX1_requireIndex_0 : List UInt8 := dkwX1_requireIndex_0 ++ []
theorem dksX1_requireIndex_0 : cX1_requireIndex.data.toList.drop 0 = dktX1_requireIndex_0 := by decide +kernel
theorem dX1_requireIndex_0 : decode cX1_requireIndex 0 = .ok (.iload_n 0, 1) := dk_26 (dk_at dksX1_requireIndex_0 0 rfl rfl)
theorem dX1_requireIndex_1 : decode cX1_requireIndex 1 = .ok (.ifCond .ne 11, 3) := dk_154 0 11 (dk_at dksX1_requireIndex_0 1 rfl rfl)
theorem dX1_requireIndex_4 : decode cX1_requireIndex 4 = .ok (.new 7, 3) := dk_187 0 7 (dk_at dksX1_requireIndex_0 4 rfl rfl)
theorem dX1_requireIndex_7 : decode cX1_requireIndex 7 = .ok (.dup, 1) := dk_89 (dk_at dksX1_requireIndex_0 7 rfl rfl)
theorem dX1_requireIndex_8 : decode cX1_requireIndex 8 = .ok (.invokespecial 9, 3) := dk_183 0 9 (dk_at dksX1_requireIndex_0 8 rfl rfl)
theorem dX1_requireIndex_11 : decode cX1_requireIndex 11 = .ok (.athrow, 1) := dk_191 (dk_at dksX1_requireIndex_0 11 rfl rfl)
theorem dX1_requireIndex_12 : decode cX1_requireIndex 12 = .ok (.return_, 1) := dk_177 (dk_at dksX1_requireIndex_0 12 rfl rfl)
abbrev cX1_isRent : ByteArray := prog_1_method_3_code
def yX1_isRent : MethodName := ⟨RX1, "isRent", "(I)Z"⟩
def dkwX1_isRent_0 : List UInt8 := [26, 4, 16, 20, 184, 0, 3, 172]
abbrev dktX1_isRent_0 : List UInt8 := dkwX1_isRent_0 ++ []
theorem dksX1_isRent_0 : cX1_isRent.data.toList.drop 0 = dktX1_isRent_0 := by decide +kernel
theorem dX1_isRent_0 : decode cX1_isRent 0 = .ok (.iload_n 0, 1) := dk_26 (dk_at dksX1_isRent_0 0 rfl rfl)
theorem dX1_isRent_1 : decode cX1_isRent 1 = .ok (.iconst 1, 1) := dk_4 (dk_at dksX1_isRent_0 1 rfl rfl)
theorem dX1_isRent_2 : decode cX1_isRent 2 = .ok (.bipush 20, 2) := dk_16 20 (dk_at dksX1_isRent_0 2 rfl rfl)
theorem dX1_isRent_4 : decode cX1_isRent 4 = .ok (.invokestatic 3, 3) := dk_184 0 3 (dk_at dksX1_isRent_0 4 rfl rfl)
theorem dX1_isRent_7 : decode cX1_isRent 7 = .ok (.ireturn, 1) := dk_172 (dk_at dksX1_isRent_0 7 rfl rfl)
abbrev cX1_requireArgument : ByteArray := prog_1_method_11_code
def yX1_requireArgument : MethodName := ⟨RX1, "requireArgument", "(Z)V"⟩
def dkwX1_requireArgument_0 : List UInt8 := [26, 154, 0, 11, 187, 0, 13, 89, 183, 0, 15, 191, 177]
abbrev dktX1_requireArgument_0 : List UInt8 := dkwX1_requireArgument_0 ++ []
theorem dksX1_requireArgument_0 : cX1_requireArgument.data.toList.drop 0 = dktX1_requireArgument_0 := by decide +kernel
theorem dX1_requireArgument_0 : decode cX1_requireArgument 0 = .ok (.iload_n 0, 1) := dk_26 (dk_at dksX1_requireArgument_0 0 rfl rfl)
theorem dX1_requireArgument_1 : decode cX1_requireArgument 1 = .ok (.ifCond .ne 11, 3) := dk_154 0 11 (dk_at dksX1_requireArgument_0 1 rfl rfl)
theorem dX1_requireArgument_4 : decode cX1_requireArgument 4 = .ok (.new 13, 3) := dk_187 0 13 (dk_at dksX1_requireArgument_0 4 rfl rfl)
theorem dX1_requireArgument_7 : decode cX1_requireArgument 7 = .ok (.dup, 1) := dk_89 (dk_at dksX1_requireArgument_0 7 rfl rfl)
theorem dX1_requireArgument_8 : decode cX1_requireArgument 8 = .ok (.invokespecial 15, 3) := dk_183 0 15 (dk_at dksX1_requireArgument_0 8 rfl rfl)
theorem dX1_requireArgument_11 : decode cX1_requireArgument 11 = .ok (.athrow, 1) := dk_191 (dk_at dksX1_requireArgument_0 11 rfl rfl)
theorem dX1_requireArgument_12 : decode cX1_requireArgument 12 = .ok (.return_, 1) := dk_177 (dk_at dksX1_requireArgument_0 12 rfl rfl)
abbrev cX1_change : ByteArray := prog_1_method_22_code
def yX1_change : MethodName := ⟨RX1, "change", "(LBenchBroker$Action;)I"⟩
def dkwX1_change_1 : List UInt8 := [181, 0, 161, 187, 0, 165, 89, 183, 0, 167, 191]
abbrev dktX1_change_1 : List UInt8 := dkwX1_change_1 ++ []
def dkwX1_change_0 : List UInt8 := [42, 180, 0, 120, 182, 0, 150, 77, 43, 44, 182, 0, 154, 62, 42, 44, 29, 182, 0, 157, 172, 78, 42, 45]
abbrev dktX1_change_0 : List UInt8 := dkwX1_change_0 ++ dktX1_change_1
theorem dksX1_change_0 : cX1_change.data.toList.drop 0 = dktX1_change_0 := by decide +kernel
theorem dksX1_change_1 : cX1_change.data.toList.drop 24 = dktX1_change_1 := dk_seg dksX1_change_0 24 rfl rfl
theorem dX1_change_0 : decode cX1_change 0 = .ok (.aload_n 0, 1) := dk_42 (dk_at dksX1_change_0 0 rfl rfl)
theorem dX1_change_1 : decode cX1_change 1 = .ok (.getfield 120, 3) := dk_180 0 120 (dk_at dksX1_change_0 1 rfl rfl)
theorem dX1_change_4 : decode cX1_change 4 = .ok (.invokevirtual 150, 3) := dk_182 0 150 (dk_at dksX1_change_0 4 rfl rfl)
theorem dX1_change_7 : decode cX1_change 7 = .ok (.astore_n 2, 1) := dk_77 (dk_at dksX1_change_0 7 rfl rfl)
theorem dX1_change_8 : decode cX1_change 8 = .ok (.aload_n 1, 1) := dk_43 (dk_at dksX1_change_0 8 rfl rfl)
theorem dX1_change_9 : decode cX1_change 9 = .ok (.aload_n 2, 1) := dk_44 (dk_at dksX1_change_0 9 rfl rfl)
theorem dX1_change_10 : decode cX1_change 10 = .ok (.invokevirtual 154, 3) := dk_182 0 154 (dk_at dksX1_change_0 10 rfl rfl)
theorem dX1_change_13 : decode cX1_change 13 = .ok (.istore_n 3, 1) := dk_62 (dk_at dksX1_change_0 13 rfl rfl)
theorem dX1_change_14 : decode cX1_change 14 = .ok (.aload_n 0, 1) := dk_42 (dk_at dksX1_change_0 14 rfl rfl)
theorem dX1_change_15 : decode cX1_change 15 = .ok (.aload_n 2, 1) := dk_44 (dk_at dksX1_change_0 15 rfl rfl)
theorem dX1_change_16 : decode cX1_change 16 = .ok (.iload_n 3, 1) := dk_29 (dk_at dksX1_change_0 16 rfl rfl)
theorem dX1_change_17 : decode cX1_change 17 = .ok (.invokevirtual 157, 3) := dk_182 0 157 (dk_at dksX1_change_0 17 rfl rfl)
theorem dX1_change_20 : decode cX1_change 20 = .ok (.ireturn, 1) := dk_172 (dk_at dksX1_change_0 20 rfl rfl)
theorem dX1_change_21 : decode cX1_change 21 = .ok (.astore_n 3, 1) := dk_78 (dk_at dksX1_change_0 21 rfl rfl)
theorem dX1_change_22 : decode cX1_change 22 = .ok (.aload_n 0, 1) := dk_42 (dk_at dksX1_change_0 22 rfl rfl)
theorem dX1_change_23 : decode cX1_change 23 = .ok (.aload_n 3, 1) := dk_45 (dk_at dksX1_change_0 23 rfl rfl)
theorem dX1_change_24 : decode cX1_change 24 = .ok (.putfield 161, 3) := dk_181 0 161 (dk_at dksX1_change_1 0 rfl rfl)
theorem dX1_change_27 : decode cX1_change 27 = .ok (.new 165, 3) := dk_187 0 165 (dk_at dksX1_change_1 3 rfl rfl)
theorem dX1_change_30 : decode cX1_change 30 = .ok (.dup, 1) := dk_89 (dk_at dksX1_change_1 6 rfl rfl)
theorem dX1_change_31 : decode cX1_change 31 = .ok (.invokespecial 167, 3) := dk_183 0 167 (dk_at dksX1_change_1 7 rfl rfl)
theorem dX1_change_34 : decode cX1_change 34 = .ok (.athrow, 1) := dk_191 (dk_at dksX1_change_1 10 rfl rfl)
abbrev cX1_rejectIf : ByteArray := prog_1_method_15_code
def yX1_rejectIf : MethodName := ⟨RX1, "rejectIf", "(ZII)V"⟩
def dkwX1_rejectIf_0 : List UInt8 := [26, 153, 0, 13, 187, 0, 25, 89, 27, 28, 183, 0, 27, 191, 177]
abbrev dktX1_rejectIf_0 : List UInt8 := dkwX1_rejectIf_0 ++ []
theorem dksX1_rejectIf_0 : cX1_rejectIf.data.toList.drop 0 = dktX1_rejectIf_0 := by decide +kernel
theorem dX1_rejectIf_0 : decode cX1_rejectIf 0 = .ok (.iload_n 0, 1) := dk_26 (dk_at dksX1_rejectIf_0 0 rfl rfl)
theorem dX1_rejectIf_1 : decode cX1_rejectIf 1 = .ok (.ifCond .eq 13, 3) := dk_153 0 13 (dk_at dksX1_rejectIf_0 1 rfl rfl)
theorem dX1_rejectIf_4 : decode cX1_rejectIf 4 = .ok (.new 25, 3) := dk_187 0 25 (dk_at dksX1_rejectIf_0 4 rfl rfl)
theorem dX1_rejectIf_7 : decode cX1_rejectIf 7 = .ok (.dup, 1) := dk_89 (dk_at dksX1_rejectIf_0 7 rfl rfl)
theorem dX1_rejectIf_8 : decode cX1_rejectIf 8 = .ok (.iload_n 1, 1) := dk_27 (dk_at dksX1_rejectIf_0 8 rfl rfl)
theorem dX1_rejectIf_9 : decode cX1_rejectIf 9 = .ok (.iload_n 2, 1) := dk_28 (dk_at dksX1_rejectIf_0 9 rfl rfl)
theorem dX1_rejectIf_10 : decode cX1_rejectIf 10 = .ok (.invokespecial 27, 3) := dk_183 0 27 (dk_at dksX1_rejectIf_0 10 rfl rfl)
theorem dX1_rejectIf_13 : decode cX1_rejectIf 13 = .ok (.athrow, 1) := dk_191 (dk_at dksX1_rejectIf_0 13 rfl rfl)
theorem dX1_rejectIf_14 : decode cX1_rejectIf 14 = .ok (.return_, 1) := dk_177 (dk_at dksX1_rejectIf_0 14 rfl rfl)
abbrev cX1_indexAt : ByteArray := prog_1_method_17_code
def yX1_indexAt : MethodName := ⟨RX1, "indexAt", "(LBenchBroker$Register;II)I"⟩
def dkwX1_indexAt_1 : List UInt8 := [182, 0, 57, 154, 0, 9, 25, 4, 182, 0, 61, 172, 132, 3, 1, 167, 255, 219, 2, 172]
abbrev dktX1_indexAt_1 : List UInt8 := dkwX1_indexAt_1 ++ []
def dkwX1_indexAt_0 : List UInt8 := [3, 62, 29, 42, 182, 0, 30, 162, 0, 35, 42, 29, 182, 0, 36, 192, 0, 55, 58, 4, 25, 4, 27, 28]
abbrev dktX1_indexAt_0 : List UInt8 := dkwX1_indexAt_0 ++ dktX1_indexAt_1
theorem dksX1_indexAt_0 : cX1_indexAt.data.toList.drop 0 = dktX1_indexAt_0 := by decide +kernel
theorem dksX1_indexAt_1 : cX1_indexAt.data.toList.drop 24 = dktX1_indexAt_1 := dk_seg dksX1_indexAt_0 24 rfl rfl
theorem dX1_indexAt_0 : decode cX1_indexAt 0 = .ok (.iconst 0, 1) := dk_3 (dk_at dksX1_indexAt_0 0 rfl rfl)
theorem dX1_indexAt_1 : decode cX1_indexAt 1 = .ok (.istore_n 3, 1) := dk_62 (dk_at dksX1_indexAt_0 1 rfl rfl)
theorem dX1_indexAt_2 : decode cX1_indexAt 2 = .ok (.iload_n 3, 1) := dk_29 (dk_at dksX1_indexAt_0 2 rfl rfl)
theorem dX1_indexAt_3 : decode cX1_indexAt 3 = .ok (.aload_n 0, 1) := dk_42 (dk_at dksX1_indexAt_0 3 rfl rfl)
theorem dX1_indexAt_4 : decode cX1_indexAt 4 = .ok (.invokevirtual 30, 3) := dk_182 0 30 (dk_at dksX1_indexAt_0 4 rfl rfl)
theorem dX1_indexAt_7 : decode cX1_indexAt 7 = .ok (.if_icmp .ge 35, 3) := dk_162 0 35 (dk_at dksX1_indexAt_0 7 rfl rfl)
theorem dX1_indexAt_10 : decode cX1_indexAt 10 = .ok (.aload_n 0, 1) := dk_42 (dk_at dksX1_indexAt_0 10 rfl rfl)
theorem dX1_indexAt_11 : decode cX1_indexAt 11 = .ok (.iload_n 3, 1) := dk_29 (dk_at dksX1_indexAt_0 11 rfl rfl)
theorem dX1_indexAt_12 : decode cX1_indexAt 12 = .ok (.invokevirtual 36, 3) := dk_182 0 36 (dk_at dksX1_indexAt_0 12 rfl rfl)
theorem dX1_indexAt_15 : decode cX1_indexAt 15 = .ok (.checkcast 55, 3) := dk_192 0 55 (dk_at dksX1_indexAt_0 15 rfl rfl)
theorem dX1_indexAt_18 : decode cX1_indexAt 18 = .ok (.astore 4, 2) := dk_58 4 (dk_at dksX1_indexAt_0 18 rfl rfl)
theorem dX1_indexAt_20 : decode cX1_indexAt 20 = .ok (.aload 4, 2) := dk_25 4 (dk_at dksX1_indexAt_0 20 rfl rfl)
theorem dX1_indexAt_22 : decode cX1_indexAt 22 = .ok (.iload_n 1, 1) := dk_27 (dk_at dksX1_indexAt_0 22 rfl rfl)
theorem dX1_indexAt_23 : decode cX1_indexAt 23 = .ok (.iload_n 2, 1) := dk_28 (dk_at dksX1_indexAt_0 23 rfl rfl)
theorem dX1_indexAt_24 : decode cX1_indexAt 24 = .ok (.invokevirtual 57, 3) := dk_182 0 57 (dk_at dksX1_indexAt_1 0 rfl rfl)
theorem dX1_indexAt_27 : decode cX1_indexAt 27 = .ok (.ifCond .ne 9, 3) := dk_154 0 9 (dk_at dksX1_indexAt_1 3 rfl rfl)
theorem dX1_indexAt_30 : decode cX1_indexAt 30 = .ok (.aload 4, 2) := dk_25 4 (dk_at dksX1_indexAt_1 6 rfl rfl)
theorem dX1_indexAt_32 : decode cX1_indexAt 32 = .ok (.invokevirtual 61, 3) := dk_182 0 61 (dk_at dksX1_indexAt_1 8 rfl rfl)
theorem dX1_indexAt_35 : decode cX1_indexAt 35 = .ok (.ireturn, 1) := dk_172 (dk_at dksX1_indexAt_1 11 rfl rfl)
theorem dX1_indexAt_36 : decode cX1_indexAt 36 = .ok (.iinc 3 1, 3) := dk_132 3 1 (dk_at dksX1_indexAt_1 12 rfl rfl)
theorem dX1_indexAt_39 : decode cX1_indexAt 39 = .ok (.goto (-37), 3) := dk_167 255 219 (dk_at dksX1_indexAt_1 15 rfl rfl)
theorem dX1_indexAt_42 : decode cX1_indexAt 42 = .ok (.iconst (-1), 1) := dk_2 (dk_at dksX1_indexAt_1 18 rfl rfl)
theorem dX1_indexAt_43 : decode cX1_indexAt 43 = .ok (.ireturn, 1) := dk_172 (dk_at dksX1_indexAt_1 19 rfl rfl)
abbrev cX1_commit : ByteArray := prog_1_method_21_code
def yX1_commit : MethodName := ⟨RX1, "commit", "(LBenchBroker$Park;I)I"⟩
def dkwX1_commit_1 : List UInt8 := [180, 0, 125, 42, 180, 0, 120, 182, 0, 147, 87, 42, 43, 181, 0, 120, 28, 172]
abbrev dktX1_commit_1 : List UInt8 := dkwX1_commit_1 ++ []
def dkwX1_commit_0 : List UInt8 := [42, 180, 0, 125, 182, 0, 142, 16, 8, 160, 0, 12, 42, 180, 0, 125, 3, 182, 0, 143, 87, 42]
abbrev dktX1_commit_0 : List UInt8 := dkwX1_commit_0 ++ dktX1_commit_1
theorem dksX1_commit_0 : cX1_commit.data.toList.drop 0 = dktX1_commit_0 := by decide +kernel
theorem dksX1_commit_1 : cX1_commit.data.toList.drop 22 = dktX1_commit_1 := dk_seg dksX1_commit_0 22 rfl rfl
theorem dX1_commit_0 : decode cX1_commit 0 = .ok (.aload_n 0, 1) := dk_42 (dk_at dksX1_commit_0 0 rfl rfl)
theorem dX1_commit_1 : decode cX1_commit 1 = .ok (.getfield 125, 3) := dk_180 0 125 (dk_at dksX1_commit_0 1 rfl rfl)
theorem dX1_commit_4 : decode cX1_commit 4 = .ok (.invokevirtual 142, 3) := dk_182 0 142 (dk_at dksX1_commit_0 4 rfl rfl)
theorem dX1_commit_7 : decode cX1_commit 7 = .ok (.bipush 8, 2) := dk_16 8 (dk_at dksX1_commit_0 7 rfl rfl)
theorem dX1_commit_9 : decode cX1_commit 9 = .ok (.if_icmp .ne 12, 3) := dk_160 0 12 (dk_at dksX1_commit_0 9 rfl rfl)
theorem dX1_commit_12 : decode cX1_commit 12 = .ok (.aload_n 0, 1) := dk_42 (dk_at dksX1_commit_0 12 rfl rfl)
theorem dX1_commit_13 : decode cX1_commit 13 = .ok (.getfield 125, 3) := dk_180 0 125 (dk_at dksX1_commit_0 13 rfl rfl)
theorem dX1_commit_16 : decode cX1_commit 16 = .ok (.iconst 0, 1) := dk_3 (dk_at dksX1_commit_0 16 rfl rfl)
theorem dX1_commit_17 : decode cX1_commit 17 = .ok (.invokevirtual 143, 3) := dk_182 0 143 (dk_at dksX1_commit_0 17 rfl rfl)
theorem dX1_commit_20 : decode cX1_commit 20 = .ok (.pop, 1) := dk_87 (dk_at dksX1_commit_0 20 rfl rfl)
theorem dX1_commit_21 : decode cX1_commit 21 = .ok (.aload_n 0, 1) := dk_42 (dk_at dksX1_commit_0 21 rfl rfl)
theorem dX1_commit_22 : decode cX1_commit 22 = .ok (.getfield 125, 3) := dk_180 0 125 (dk_at dksX1_commit_1 0 rfl rfl)
theorem dX1_commit_25 : decode cX1_commit 25 = .ok (.aload_n 0, 1) := dk_42 (dk_at dksX1_commit_1 3 rfl rfl)
theorem dX1_commit_26 : decode cX1_commit 26 = .ok (.getfield 120, 3) := dk_180 0 120 (dk_at dksX1_commit_1 4 rfl rfl)
theorem dX1_commit_29 : decode cX1_commit 29 = .ok (.invokevirtual 147, 3) := dk_182 0 147 (dk_at dksX1_commit_1 7 rfl rfl)
theorem dX1_commit_32 : decode cX1_commit 32 = .ok (.pop, 1) := dk_87 (dk_at dksX1_commit_1 10 rfl rfl)
theorem dX1_commit_33 : decode cX1_commit 33 = .ok (.aload_n 0, 1) := dk_42 (dk_at dksX1_commit_1 11 rfl rfl)
theorem dX1_commit_34 : decode cX1_commit 34 = .ok (.aload_n 1, 1) := dk_43 (dk_at dksX1_commit_1 12 rfl rfl)
theorem dX1_commit_35 : decode cX1_commit 35 = .ok (.putfield 120, 3) := dk_181 0 120 (dk_at dksX1_commit_1 13 rfl rfl)
theorem dX1_commit_38 : decode cX1_commit 38 = .ok (.iload_n 2, 1) := dk_28 (dk_at dksX1_commit_1 16 rfl rfl)
theorem dX1_commit_39 : decode cX1_commit 39 = .ok (.ireturn, 1) := dk_172 (dk_at dksX1_commit_1 17 rfl rfl)
abbrev cX1_setRent : ByteArray := prog_1_method_30_code
def yX1_setRent : MethodName := ⟨RX1, "setRent", "(II)I"⟩
def dkwX1_setRent_1 : List UInt8 := [180, 0, 120, 182, 0, 150, 78, 45, 27, 28, 182, 0, 228, 54, 4, 42, 45, 21, 4, 182, 0, 157, 172]
abbrev dktX1_setRent_1 : List UInt8 := dkwX1_setRent_1 ++ []
def dkwX1_setRent_0 : List UInt8 := [42, 180, 0, 120, 180, 0, 168, 27, 182, 0, 172, 184, 0, 176, 28, 184, 0, 213, 184, 0, 216, 42]
abbrev dktX1_setRent_0 : List UInt8 := dkwX1_setRent_0 ++ dktX1_setRent_1
theorem dksX1_setRent_0 : cX1_setRent.data.toList.drop 0 = dktX1_setRent_0 := by decide +kernel
theorem dksX1_setRent_1 : cX1_setRent.data.toList.drop 22 = dktX1_setRent_1 := dk_seg dksX1_setRent_0 22 rfl rfl
theorem dX1_setRent_0 : decode cX1_setRent 0 = .ok (.aload_n 0, 1) := dk_42 (dk_at dksX1_setRent_0 0 rfl rfl)
theorem dX1_setRent_1 : decode cX1_setRent 1 = .ok (.getfield 120, 3) := dk_180 0 120 (dk_at dksX1_setRent_0 1 rfl rfl)
theorem dX1_setRent_4 : decode cX1_setRent 4 = .ok (.getfield 168, 3) := dk_180 0 168 (dk_at dksX1_setRent_0 4 rfl rfl)
theorem dX1_setRent_7 : decode cX1_setRent 7 = .ok (.iload_n 1, 1) := dk_27 (dk_at dksX1_setRent_0 7 rfl rfl)
theorem dX1_setRent_8 : decode cX1_setRent 8 = .ok (.invokevirtual 172, 3) := dk_182 0 172 (dk_at dksX1_setRent_0 8 rfl rfl)
theorem dX1_setRent_11 : decode cX1_setRent 11 = .ok (.invokestatic 176, 3) := dk_184 0 176 (dk_at dksX1_setRent_0 11 rfl rfl)
theorem dX1_setRent_14 : decode cX1_setRent 14 = .ok (.iload_n 2, 1) := dk_28 (dk_at dksX1_setRent_0 14 rfl rfl)
theorem dX1_setRent_15 : decode cX1_setRent 15 = .ok (.invokestatic 213, 3) := dk_184 0 213 (dk_at dksX1_setRent_0 15 rfl rfl)
theorem dX1_setRent_18 : decode cX1_setRent 18 = .ok (.invokestatic 216, 3) := dk_184 0 216 (dk_at dksX1_setRent_0 18 rfl rfl)
theorem dX1_setRent_21 : decode cX1_setRent 21 = .ok (.aload_n 0, 1) := dk_42 (dk_at dksX1_setRent_0 21 rfl rfl)
theorem dX1_setRent_22 : decode cX1_setRent 22 = .ok (.getfield 120, 3) := dk_180 0 120 (dk_at dksX1_setRent_1 0 rfl rfl)
theorem dX1_setRent_25 : decode cX1_setRent 25 = .ok (.invokevirtual 150, 3) := dk_182 0 150 (dk_at dksX1_setRent_1 3 rfl rfl)
theorem dX1_setRent_28 : decode cX1_setRent 28 = .ok (.astore_n 3, 1) := dk_78 (dk_at dksX1_setRent_1 6 rfl rfl)
theorem dX1_setRent_29 : decode cX1_setRent 29 = .ok (.aload_n 3, 1) := dk_45 (dk_at dksX1_setRent_1 7 rfl rfl)
theorem dX1_setRent_30 : decode cX1_setRent 30 = .ok (.iload_n 1, 1) := dk_27 (dk_at dksX1_setRent_1 8 rfl rfl)
theorem dX1_setRent_31 : decode cX1_setRent 31 = .ok (.iload_n 2, 1) := dk_28 (dk_at dksX1_setRent_1 9 rfl rfl)
theorem dX1_setRent_32 : decode cX1_setRent 32 = .ok (.invokevirtual 228, 3) := dk_182 0 228 (dk_at dksX1_setRent_1 10 rfl rfl)
theorem dX1_setRent_35 : decode cX1_setRent 35 = .ok (.istore 4, 2) := dk_54 4 (dk_at dksX1_setRent_1 13 rfl rfl)
theorem dX1_setRent_37 : decode cX1_setRent 37 = .ok (.aload_n 0, 1) := dk_42 (dk_at dksX1_setRent_1 15 rfl rfl)
theorem dX1_setRent_38 : decode cX1_setRent 38 = .ok (.aload_n 3, 1) := dk_45 (dk_at dksX1_setRent_1 16 rfl rfl)
theorem dX1_setRent_39 : decode cX1_setRent 39 = .ok (.iload 4, 2) := dk_21 4 (dk_at dksX1_setRent_1 17 rfl rfl)
theorem dX1_setRent_41 : decode cX1_setRent 41 = .ok (.invokevirtual 157, 3) := dk_182 0 157 (dk_at dksX1_setRent_1 19 rfl rfl)
theorem dX1_setRent_44 : decode cX1_setRent 44 = .ok (.ireturn, 1) := dk_172 (dk_at dksX1_setRent_1 22 rfl rfl)
abbrev cX1_addFountain : ByteArray := prog_1_method_31_code
def yX1_addFountain : MethodName := ⟨RX1, "addFountain", "(III)I"⟩
def dkwX1_addFountain_1 : List UInt8 := [29, 183, 0, 221, 182, 0, 224, 172]
abbrev dktX1_addFountain_1 : List UInt8 := dkwX1_addFountain_1 ++ []
def dkwX1_addFountain_0 : List UInt8 := [27, 28, 184, 0, 209, 184, 0, 176, 29, 184, 0, 231, 184, 0, 216, 42, 187, 0, 219, 89, 16, 102, 27, 28]
abbrev dktX1_addFountain_0 : List UInt8 := dkwX1_addFountain_0 ++ dktX1_addFountain_1
theorem dksX1_addFountain_0 : cX1_addFountain.data.toList.drop 0 = dktX1_addFountain_0 := by decide +kernel
theorem dksX1_addFountain_1 : cX1_addFountain.data.toList.drop 24 = dktX1_addFountain_1 := dk_seg dksX1_addFountain_0 24 rfl rfl
theorem dX1_addFountain_0 : decode cX1_addFountain 0 = .ok (.iload_n 1, 1) := dk_27 (dk_at dksX1_addFountain_0 0 rfl rfl)
theorem dX1_addFountain_1 : decode cX1_addFountain 1 = .ok (.iload_n 2, 1) := dk_28 (dk_at dksX1_addFountain_0 1 rfl rfl)
theorem dX1_addFountain_2 : decode cX1_addFountain 2 = .ok (.invokestatic 209, 3) := dk_184 0 209 (dk_at dksX1_addFountain_0 2 rfl rfl)
theorem dX1_addFountain_5 : decode cX1_addFountain 5 = .ok (.invokestatic 176, 3) := dk_184 0 176 (dk_at dksX1_addFountain_0 5 rfl rfl)
theorem dX1_addFountain_8 : decode cX1_addFountain 8 = .ok (.iload_n 3, 1) := dk_29 (dk_at dksX1_addFountain_0 8 rfl rfl)
theorem dX1_addFountain_9 : decode cX1_addFountain 9 = .ok (.invokestatic 231, 3) := dk_184 0 231 (dk_at dksX1_addFountain_0 9 rfl rfl)
theorem dX1_addFountain_12 : decode cX1_addFountain 12 = .ok (.invokestatic 216, 3) := dk_184 0 216 (dk_at dksX1_addFountain_0 12 rfl rfl)
theorem dX1_addFountain_15 : decode cX1_addFountain 15 = .ok (.aload_n 0, 1) := dk_42 (dk_at dksX1_addFountain_0 15 rfl rfl)
theorem dX1_addFountain_16 : decode cX1_addFountain 16 = .ok (.new 219, 3) := dk_187 0 219 (dk_at dksX1_addFountain_0 16 rfl rfl)
theorem dX1_addFountain_19 : decode cX1_addFountain 19 = .ok (.dup, 1) := dk_89 (dk_at dksX1_addFountain_0 19 rfl rfl)
theorem dX1_addFountain_20 : decode cX1_addFountain 20 = .ok (.bipush 102, 2) := dk_16 102 (dk_at dksX1_addFountain_0 20 rfl rfl)
theorem dX1_addFountain_22 : decode cX1_addFountain 22 = .ok (.iload_n 1, 1) := dk_27 (dk_at dksX1_addFountain_0 22 rfl rfl)
theorem dX1_addFountain_23 : decode cX1_addFountain 23 = .ok (.iload_n 2, 1) := dk_28 (dk_at dksX1_addFountain_0 23 rfl rfl)
theorem dX1_addFountain_24 : decode cX1_addFountain 24 = .ok (.iload_n 3, 1) := dk_29 (dk_at dksX1_addFountain_1 0 rfl rfl)
theorem dX1_addFountain_25 : decode cX1_addFountain 25 = .ok (.invokespecial 221, 3) := dk_183 0 221 (dk_at dksX1_addFountain_1 1 rfl rfl)
theorem dX1_addFountain_28 : decode cX1_addFountain 28 = .ok (.invokevirtual 224, 3) := dk_182 0 224 (dk_at dksX1_addFountain_1 4 rfl rfl)
theorem dX1_addFountain_31 : decode cX1_addFountain 31 = .ok (.ireturn, 1) := dk_172 (dk_at dksX1_addFountain_1 7 rfl rfl)
abbrev cX1_isLoudness : ByteArray := prog_1_method_4_code
def yX1_isLoudness : MethodName := ⟨RX1, "isLoudness", "(I)Z"⟩
def dkwX1_isLoudness_0 : List UInt8 := [26, 4, 16, 9, 184, 0, 3, 172]
abbrev dktX1_isLoudness_0 : List UInt8 := dkwX1_isLoudness_0 ++ []
theorem dksX1_isLoudness_0 : cX1_isLoudness.data.toList.drop 0 = dktX1_isLoudness_0 := by decide +kernel
theorem dX1_isLoudness_0 : decode cX1_isLoudness 0 = .ok (.iload_n 0, 1) := dk_26 (dk_at dksX1_isLoudness_0 0 rfl rfl)
theorem dX1_isLoudness_1 : decode cX1_isLoudness 1 = .ok (.iconst 1, 1) := dk_4 (dk_at dksX1_isLoudness_0 1 rfl rfl)
theorem dX1_isLoudness_2 : decode cX1_isLoudness 2 = .ok (.bipush 9, 2) := dk_16 9 (dk_at dksX1_isLoudness_0 2 rfl rfl)
theorem dX1_isLoudness_4 : decode cX1_isLoudness 4 = .ok (.invokestatic 3, 3) := dk_184 0 3 (dk_at dksX1_isLoudness_0 4 rfl rfl)
theorem dX1_isLoudness_7 : decode cX1_isLoudness 7 = .ok (.ireturn, 1) := dk_172 (dk_at dksX1_isLoudness_0 7 rfl rfl)
abbrev cX1_setLoudness : ByteArray := prog_1_method_32_code
def yX1_setLoudness : MethodName := ⟨RX1, "setLoudness", "(II)I"⟩
def dkwX1_setLoudness_1 : List UInt8 := [180, 0, 120, 182, 0, 150, 78, 45, 27, 28, 182, 0, 234, 54, 4, 42, 45, 21, 4, 182, 0, 157, 172]
abbrev dktX1_setLoudness_1 : List UInt8 := dkwX1_setLoudness_1 ++ []
def dkwX1_setLoudness_0 : List UInt8 := [42, 180, 0, 120, 180, 0, 180, 27, 182, 0, 172, 184, 0, 176, 28, 184, 0, 231, 184, 0, 216, 42]
abbrev dktX1_setLoudness_0 : List UInt8 := dkwX1_setLoudness_0 ++ dktX1_setLoudness_1
theorem dksX1_setLoudness_0 : cX1_setLoudness.data.toList.drop 0 = dktX1_setLoudness_0 := by decide +kernel
theorem dksX1_setLoudness_1 : cX1_setLoudness.data.toList.drop 22 = dktX1_setLoudness_1 := dk_seg dksX1_setLoudness_0 22 rfl rfl
theorem dX1_setLoudness_0 : decode cX1_setLoudness 0 = .ok (.aload_n 0, 1) := dk_42 (dk_at dksX1_setLoudness_0 0 rfl rfl)
theorem dX1_setLoudness_1 : decode cX1_setLoudness 1 = .ok (.getfield 120, 3) := dk_180 0 120 (dk_at dksX1_setLoudness_0 1 rfl rfl)
theorem dX1_setLoudness_4 : decode cX1_setLoudness 4 = .ok (.getfield 180, 3) := dk_180 0 180 (dk_at dksX1_setLoudness_0 4 rfl rfl)
theorem dX1_setLoudness_7 : decode cX1_setLoudness 7 = .ok (.iload_n 1, 1) := dk_27 (dk_at dksX1_setLoudness_0 7 rfl rfl)
theorem dX1_setLoudness_8 : decode cX1_setLoudness 8 = .ok (.invokevirtual 172, 3) := dk_182 0 172 (dk_at dksX1_setLoudness_0 8 rfl rfl)
theorem dX1_setLoudness_11 : decode cX1_setLoudness 11 = .ok (.invokestatic 176, 3) := dk_184 0 176 (dk_at dksX1_setLoudness_0 11 rfl rfl)
theorem dX1_setLoudness_14 : decode cX1_setLoudness 14 = .ok (.iload_n 2, 1) := dk_28 (dk_at dksX1_setLoudness_0 14 rfl rfl)
theorem dX1_setLoudness_15 : decode cX1_setLoudness 15 = .ok (.invokestatic 231, 3) := dk_184 0 231 (dk_at dksX1_setLoudness_0 15 rfl rfl)
theorem dX1_setLoudness_18 : decode cX1_setLoudness 18 = .ok (.invokestatic 216, 3) := dk_184 0 216 (dk_at dksX1_setLoudness_0 18 rfl rfl)
theorem dX1_setLoudness_21 : decode cX1_setLoudness 21 = .ok (.aload_n 0, 1) := dk_42 (dk_at dksX1_setLoudness_0 21 rfl rfl)
theorem dX1_setLoudness_22 : decode cX1_setLoudness 22 = .ok (.getfield 120, 3) := dk_180 0 120 (dk_at dksX1_setLoudness_1 0 rfl rfl)
theorem dX1_setLoudness_25 : decode cX1_setLoudness 25 = .ok (.invokevirtual 150, 3) := dk_182 0 150 (dk_at dksX1_setLoudness_1 3 rfl rfl)
theorem dX1_setLoudness_28 : decode cX1_setLoudness 28 = .ok (.astore_n 3, 1) := dk_78 (dk_at dksX1_setLoudness_1 6 rfl rfl)
theorem dX1_setLoudness_29 : decode cX1_setLoudness 29 = .ok (.aload_n 3, 1) := dk_45 (dk_at dksX1_setLoudness_1 7 rfl rfl)
theorem dX1_setLoudness_30 : decode cX1_setLoudness 30 = .ok (.iload_n 1, 1) := dk_27 (dk_at dksX1_setLoudness_1 8 rfl rfl)
theorem dX1_setLoudness_31 : decode cX1_setLoudness 31 = .ok (.iload_n 2, 1) := dk_28 (dk_at dksX1_setLoudness_1 9 rfl rfl)
theorem dX1_setLoudness_32 : decode cX1_setLoudness 32 = .ok (.invokevirtual 234, 3) := dk_182 0 234 (dk_at dksX1_setLoudness_1 10 rfl rfl)
theorem dX1_setLoudness_35 : decode cX1_setLoudness 35 = .ok (.istore 4, 2) := dk_54 4 (dk_at dksX1_setLoudness_1 13 rfl rfl)
theorem dX1_setLoudness_37 : decode cX1_setLoudness 37 = .ok (.aload_n 0, 1) := dk_42 (dk_at dksX1_setLoudness_1 15 rfl rfl)
theorem dX1_setLoudness_38 : decode cX1_setLoudness 38 = .ok (.aload_n 3, 1) := dk_45 (dk_at dksX1_setLoudness_1 16 rfl rfl)
theorem dX1_setLoudness_39 : decode cX1_setLoudness 39 = .ok (.iload 4, 2) := dk_21 4 (dk_at dksX1_setLoudness_1 17 rfl rfl)
theorem dX1_setLoudness_41 : decode cX1_setLoudness 41 = .ok (.invokevirtual 157, 3) := dk_182 0 157 (dk_at dksX1_setLoudness_1 19 rfl rfl)
theorem dX1_setLoudness_44 : decode cX1_setLoudness 44 = .ok (.ireturn, 1) := dk_172 (dk_at dksX1_setLoudness_1 22 rfl rfl)
abbrev cX1_switchFountain : ByteArray := prog_1_method_33_code
def yX1_switchFountain : MethodName := ⟨RX1, "switchFountain", "(I)Z"⟩
def dkwX1_switchFountain_1 : List UInt8 := [183, 0, 239, 182, 0, 224, 4, 160, 0, 7, 4, 167, 0, 4, 3, 172]
abbrev dktX1_switchFountain_1 : List UInt8 := dkwX1_switchFountain_1 ++ []
def dkwX1_switchFountain_0 : List UInt8 := [42, 180, 0, 120, 180, 0, 180, 27, 182, 0, 172, 184, 0, 176, 42, 187, 0, 237, 89, 16, 115, 27, 2]
abbrev dktX1_switchFountain_0 : List UInt8 := dkwX1_switchFountain_0 ++ dktX1_switchFountain_1
theorem dksX1_switchFountain_0 : cX1_switchFountain.data.toList.drop 0 = dktX1_switchFountain_0 := by decide +kernel
theorem dksX1_switchFountain_1 : cX1_switchFountain.data.toList.drop 23 = dktX1_switchFountain_1 := dk_seg dksX1_switchFountain_0 23 rfl rfl
theorem dX1_switchFountain_0 : decode cX1_switchFountain 0 = .ok (.aload_n 0, 1) := dk_42 (dk_at dksX1_switchFountain_0 0 rfl rfl)
theorem dX1_switchFountain_1 : decode cX1_switchFountain 1 = .ok (.getfield 120, 3) := dk_180 0 120 (dk_at dksX1_switchFountain_0 1 rfl rfl)
theorem dX1_switchFountain_4 : decode cX1_switchFountain 4 = .ok (.getfield 180, 3) := dk_180 0 180 (dk_at dksX1_switchFountain_0 4 rfl rfl)
theorem dX1_switchFountain_7 : decode cX1_switchFountain 7 = .ok (.iload_n 1, 1) := dk_27 (dk_at dksX1_switchFountain_0 7 rfl rfl)
theorem dX1_switchFountain_8 : decode cX1_switchFountain 8 = .ok (.invokevirtual 172, 3) := dk_182 0 172 (dk_at dksX1_switchFountain_0 8 rfl rfl)
theorem dX1_switchFountain_11 : decode cX1_switchFountain 11 = .ok (.invokestatic 176, 3) := dk_184 0 176 (dk_at dksX1_switchFountain_0 11 rfl rfl)
theorem dX1_switchFountain_14 : decode cX1_switchFountain 14 = .ok (.aload_n 0, 1) := dk_42 (dk_at dksX1_switchFountain_0 14 rfl rfl)
theorem dX1_switchFountain_15 : decode cX1_switchFountain 15 = .ok (.new 237, 3) := dk_187 0 237 (dk_at dksX1_switchFountain_0 15 rfl rfl)
theorem dX1_switchFountain_18 : decode cX1_switchFountain 18 = .ok (.dup, 1) := dk_89 (dk_at dksX1_switchFountain_0 18 rfl rfl)
theorem dX1_switchFountain_19 : decode cX1_switchFountain 19 = .ok (.bipush 115, 2) := dk_16 115 (dk_at dksX1_switchFountain_0 19 rfl rfl)
theorem dX1_switchFountain_21 : decode cX1_switchFountain 21 = .ok (.iload_n 1, 1) := dk_27 (dk_at dksX1_switchFountain_0 21 rfl rfl)
theorem dX1_switchFountain_22 : decode cX1_switchFountain 22 = .ok (.iconst (-1), 1) := dk_2 (dk_at dksX1_switchFountain_0 22 rfl rfl)
theorem dX1_switchFountain_23 : decode cX1_switchFountain 23 = .ok (.invokespecial 239, 3) := dk_183 0 239 (dk_at dksX1_switchFountain_1 0 rfl rfl)
theorem dX1_switchFountain_26 : decode cX1_switchFountain 26 = .ok (.invokevirtual 224, 3) := dk_182 0 224 (dk_at dksX1_switchFountain_1 3 rfl rfl)
theorem dX1_switchFountain_29 : decode cX1_switchFountain 29 = .ok (.iconst 1, 1) := dk_4 (dk_at dksX1_switchFountain_1 6 rfl rfl)
theorem dX1_switchFountain_30 : decode cX1_switchFountain 30 = .ok (.if_icmp .ne 7, 3) := dk_160 0 7 (dk_at dksX1_switchFountain_1 7 rfl rfl)
theorem dX1_switchFountain_33 : decode cX1_switchFountain 33 = .ok (.iconst 1, 1) := dk_4 (dk_at dksX1_switchFountain_1 10 rfl rfl)
theorem dX1_switchFountain_34 : decode cX1_switchFountain 34 = .ok (.goto 4, 3) := dk_167 0 4 (dk_at dksX1_switchFountain_1 11 rfl rfl)
theorem dX1_switchFountain_37 : decode cX1_switchFountain 37 = .ok (.iconst 0, 1) := dk_3 (dk_at dksX1_switchFountain_1 14 rfl rfl)
theorem dX1_switchFountain_38 : decode cX1_switchFountain 38 = .ok (.ireturn, 1) := dk_172 (dk_at dksX1_switchFountain_1 15 rfl rfl)
abbrev cX1_setNoiseLimit : ByteArray := prog_1_method_34_code
def yX1_setNoiseLimit : MethodName := ⟨RX1, "setNoiseLimit", "(I)I"⟩
def dkwX1_setNoiseLimit_0 : List UInt8 := [27, 184, 0, 242, 184, 0, 216, 42, 187, 0, 237, 89, 16, 110, 2, 27, 183, 0, 239, 182, 0, 224, 172]
abbrev dktX1_setNoiseLimit_0 : List UInt8 := dkwX1_setNoiseLimit_0 ++ []
theorem dksX1_setNoiseLimit_0 : cX1_setNoiseLimit.data.toList.drop 0 = dktX1_setNoiseLimit_0 := by decide +kernel
theorem dX1_setNoiseLimit_0 : decode cX1_setNoiseLimit 0 = .ok (.iload_n 1, 1) := dk_27 (dk_at dksX1_setNoiseLimit_0 0 rfl rfl)
theorem dX1_setNoiseLimit_1 : decode cX1_setNoiseLimit 1 = .ok (.invokestatic 242, 3) := dk_184 0 242 (dk_at dksX1_setNoiseLimit_0 1 rfl rfl)
theorem dX1_setNoiseLimit_4 : decode cX1_setNoiseLimit 4 = .ok (.invokestatic 216, 3) := dk_184 0 216 (dk_at dksX1_setNoiseLimit_0 4 rfl rfl)
theorem dX1_setNoiseLimit_7 : decode cX1_setNoiseLimit 7 = .ok (.aload_n 0, 1) := dk_42 (dk_at dksX1_setNoiseLimit_0 7 rfl rfl)
theorem dX1_setNoiseLimit_8 : decode cX1_setNoiseLimit 8 = .ok (.new 237, 3) := dk_187 0 237 (dk_at dksX1_setNoiseLimit_0 8 rfl rfl)
theorem dX1_setNoiseLimit_11 : decode cX1_setNoiseLimit 11 = .ok (.dup, 1) := dk_89 (dk_at dksX1_setNoiseLimit_0 11 rfl rfl)
theorem dX1_setNoiseLimit_12 : decode cX1_setNoiseLimit 12 = .ok (.bipush 110, 2) := dk_16 110 (dk_at dksX1_setNoiseLimit_0 12 rfl rfl)
theorem dX1_setNoiseLimit_14 : decode cX1_setNoiseLimit 14 = .ok (.iconst (-1), 1) := dk_2 (dk_at dksX1_setNoiseLimit_0 14 rfl rfl)
theorem dX1_setNoiseLimit_15 : decode cX1_setNoiseLimit 15 = .ok (.iload_n 1, 1) := dk_27 (dk_at dksX1_setNoiseLimit_0 15 rfl rfl)
theorem dX1_setNoiseLimit_16 : decode cX1_setNoiseLimit 16 = .ok (.invokespecial 239, 3) := dk_183 0 239 (dk_at dksX1_setNoiseLimit_0 16 rfl rfl)
theorem dX1_setNoiseLimit_19 : decode cX1_setNoiseLimit 19 = .ok (.invokevirtual 224, 3) := dk_182 0 224 (dk_at dksX1_setNoiseLimit_0 19 rfl rfl)
theorem dX1_setNoiseLimit_22 : decode cX1_setNoiseLimit 22 = .ok (.ireturn, 1) := dk_172 (dk_at dksX1_setNoiseLimit_0 22 rfl rfl)
abbrev cX1_isLimit : ByteArray := prog_1_method_5_code
def yX1_isLimit : MethodName := ⟨RX1, "isLimit", "(I)Z"⟩
def dkwX1_isLimit_0 : List UInt8 := [26, 3, 16, 20, 184, 0, 3, 172]
abbrev dktX1_isLimit_0 : List UInt8 := dkwX1_isLimit_0 ++ []
theorem dksX1_isLimit_0 : cX1_isLimit.data.toList.drop 0 = dktX1_isLimit_0 := by decide +kernel
theorem dX1_isLimit_0 : decode cX1_isLimit 0 = .ok (.iload_n 0, 1) := dk_26 (dk_at dksX1_isLimit_0 0 rfl rfl)
theorem dX1_isLimit_1 : decode cX1_isLimit 1 = .ok (.iconst 0, 1) := dk_3 (dk_at dksX1_isLimit_0 1 rfl rfl)
theorem dX1_isLimit_2 : decode cX1_isLimit 2 = .ok (.bipush 20, 2) := dk_16 20 (dk_at dksX1_isLimit_0 2 rfl rfl)
theorem dX1_isLimit_4 : decode cX1_isLimit 4 = .ok (.invokestatic 3, 3) := dk_184 0 3 (dk_at dksX1_isLimit_0 4 rfl rfl)
theorem dX1_isLimit_7 : decode cX1_isLimit 7 = .ok (.ireturn, 1) := dk_172 (dk_at dksX1_isLimit_0 7 rfl rfl)
abbrev cX1_rowOf : ByteArray := prog_1_method_36_code
def yX1_rowOf : MethodName := ⟨RX1, "rowOf", "(I)I"⟩
def dkwX1_rowOf_0 : List UInt8 := [42, 27, 182, 0, 190, 182, 0, 65, 172]
abbrev dktX1_rowOf_0 : List UInt8 := dkwX1_rowOf_0 ++ []
theorem dksX1_rowOf_0 : cX1_rowOf.data.toList.drop 0 = dktX1_rowOf_0 := by decide +kernel
theorem dX1_rowOf_0 : decode cX1_rowOf 0 = .ok (.aload_n 0, 1) := dk_42 (dk_at dksX1_rowOf_0 0 rfl rfl)
theorem dX1_rowOf_1 : decode cX1_rowOf 1 = .ok (.iload_n 1, 1) := dk_27 (dk_at dksX1_rowOf_0 1 rfl rfl)
theorem dX1_rowOf_2 : decode cX1_rowOf 2 = .ok (.invokevirtual 190, 3) := dk_182 0 190 (dk_at dksX1_rowOf_0 2 rfl rfl)
theorem dX1_rowOf_5 : decode cX1_rowOf 5 = .ok (.invokevirtual 65, 3) := dk_182 0 65 (dk_at dksX1_rowOf_0 5 rfl rfl)
theorem dX1_rowOf_8 : decode cX1_rowOf 8 = .ok (.ireturn, 1) := dk_172 (dk_at dksX1_rowOf_0 8 rfl rfl)
abbrev cX1_requireBench : ByteArray := prog_1_method_23_code
def yX1_requireBench : MethodName := ⟨RX1, "requireBench", "(I)LBenchBroker$Bench;"⟩
def dkwX1_requireBench_1 : List UInt8 := [182, 0, 36, 192, 0, 62, 176]
abbrev dktX1_requireBench_1 : List UInt8 := dkwX1_requireBench_1 ++ []
def dkwX1_requireBench_0 : List UInt8 := [42, 180, 0, 120, 180, 0, 168, 27, 182, 0, 172, 184, 0, 176, 42, 180, 0, 120, 180, 0, 168, 27]
abbrev dktX1_requireBench_0 : List UInt8 := dkwX1_requireBench_0 ++ dktX1_requireBench_1
theorem dksX1_requireBench_0 : cX1_requireBench.data.toList.drop 0 = dktX1_requireBench_0 := by decide +kernel
theorem dksX1_requireBench_1 : cX1_requireBench.data.toList.drop 22 = dktX1_requireBench_1 := dk_seg dksX1_requireBench_0 22 rfl rfl
theorem dX1_requireBench_0 : decode cX1_requireBench 0 = .ok (.aload_n 0, 1) := dk_42 (dk_at dksX1_requireBench_0 0 rfl rfl)
theorem dX1_requireBench_1 : decode cX1_requireBench 1 = .ok (.getfield 120, 3) := dk_180 0 120 (dk_at dksX1_requireBench_0 1 rfl rfl)
theorem dX1_requireBench_4 : decode cX1_requireBench 4 = .ok (.getfield 168, 3) := dk_180 0 168 (dk_at dksX1_requireBench_0 4 rfl rfl)
theorem dX1_requireBench_7 : decode cX1_requireBench 7 = .ok (.iload_n 1, 1) := dk_27 (dk_at dksX1_requireBench_0 7 rfl rfl)
theorem dX1_requireBench_8 : decode cX1_requireBench 8 = .ok (.invokevirtual 172, 3) := dk_182 0 172 (dk_at dksX1_requireBench_0 8 rfl rfl)
theorem dX1_requireBench_11 : decode cX1_requireBench 11 = .ok (.invokestatic 176, 3) := dk_184 0 176 (dk_at dksX1_requireBench_0 11 rfl rfl)
theorem dX1_requireBench_14 : decode cX1_requireBench 14 = .ok (.aload_n 0, 1) := dk_42 (dk_at dksX1_requireBench_0 14 rfl rfl)
theorem dX1_requireBench_15 : decode cX1_requireBench 15 = .ok (.getfield 120, 3) := dk_180 0 120 (dk_at dksX1_requireBench_0 15 rfl rfl)
theorem dX1_requireBench_18 : decode cX1_requireBench 18 = .ok (.getfield 168, 3) := dk_180 0 168 (dk_at dksX1_requireBench_0 18 rfl rfl)
theorem dX1_requireBench_21 : decode cX1_requireBench 21 = .ok (.iload_n 1, 1) := dk_27 (dk_at dksX1_requireBench_0 21 rfl rfl)
theorem dX1_requireBench_22 : decode cX1_requireBench 22 = .ok (.invokevirtual 36, 3) := dk_182 0 36 (dk_at dksX1_requireBench_1 0 rfl rfl)
theorem dX1_requireBench_25 : decode cX1_requireBench 25 = .ok (.checkcast 62, 3) := dk_192 0 62 (dk_at dksX1_requireBench_1 3 rfl rfl)
theorem dX1_requireBench_28 : decode cX1_requireBench 28 = .ok (.areturn, 1) := dk_176 (dk_at dksX1_requireBench_1 6 rfl rfl)
abbrev cX1_columnOf : ByteArray := prog_1_method_37_code
def yX1_columnOf : MethodName := ⟨RX1, "columnOf", "(I)I"⟩
def dkwX1_columnOf_0 : List UInt8 := [42, 27, 182, 0, 190, 182, 0, 68, 172]
abbrev dktX1_columnOf_0 : List UInt8 := dkwX1_columnOf_0 ++ []
theorem dksX1_columnOf_0 : cX1_columnOf.data.toList.drop 0 = dktX1_columnOf_0 := by decide +kernel
theorem dX1_columnOf_0 : decode cX1_columnOf 0 = .ok (.aload_n 0, 1) := dk_42 (dk_at dksX1_columnOf_0 0 rfl rfl)
theorem dX1_columnOf_1 : decode cX1_columnOf 1 = .ok (.iload_n 1, 1) := dk_27 (dk_at dksX1_columnOf_0 1 rfl rfl)
theorem dX1_columnOf_2 : decode cX1_columnOf 2 = .ok (.invokevirtual 190, 3) := dk_182 0 190 (dk_at dksX1_columnOf_0 2 rfl rfl)
theorem dX1_columnOf_5 : decode cX1_columnOf 5 = .ok (.invokevirtual 68, 3) := dk_182 0 68 (dk_at dksX1_columnOf_0 5 rfl rfl)
theorem dX1_columnOf_8 : decode cX1_columnOf 8 = .ok (.ireturn, 1) := dk_172 (dk_at dksX1_columnOf_0 8 rfl rfl)
abbrev cX1_baseRent : ByteArray := prog_1_method_38_code
def yX1_baseRent : MethodName := ⟨RX1, "baseRent", "(I)I"⟩
def dkwX1_baseRent_0 : List UInt8 := [42, 27, 182, 0, 190, 180, 0, 74, 172]
abbrev dktX1_baseRent_0 : List UInt8 := dkwX1_baseRent_0 ++ []
theorem dksX1_baseRent_0 : cX1_baseRent.data.toList.drop 0 = dktX1_baseRent_0 := by decide +kernel
theorem dX1_baseRent_0 : decode cX1_baseRent 0 = .ok (.aload_n 0, 1) := dk_42 (dk_at dksX1_baseRent_0 0 rfl rfl)
theorem dX1_baseRent_1 : decode cX1_baseRent 1 = .ok (.iload_n 1, 1) := dk_27 (dk_at dksX1_baseRent_0 1 rfl rfl)
theorem dX1_baseRent_2 : decode cX1_baseRent 2 = .ok (.invokevirtual 190, 3) := dk_182 0 190 (dk_at dksX1_baseRent_0 2 rfl rfl)
theorem dX1_baseRent_5 : decode cX1_baseRent 5 = .ok (.getfield 74, 3) := dk_180 0 74 (dk_at dksX1_baseRent_0 5 rfl rfl)
theorem dX1_baseRent_8 : decode cX1_baseRent 8 = .ok (.ireturn, 1) := dk_172 (dk_at dksX1_baseRent_0 8 rfl rfl)
abbrev cX1_rentOf : ByteArray := prog_1_method_39_code
def yX1_rentOf : MethodName := ⟨RX1, "rentOf", "(I)I"⟩
def dkwX1_rentOf_0 : List UInt8 := [42, 180, 0, 120, 42, 27, 182, 0, 190, 182, 0, 245, 172]
abbrev dktX1_rentOf_0 : List UInt8 := dkwX1_rentOf_0 ++ []
theorem dksX1_rentOf_0 : cX1_rentOf.data.toList.drop 0 = dktX1_rentOf_0 := by decide +kernel
theorem dX1_rentOf_0 : decode cX1_rentOf 0 = .ok (.aload_n 0, 1) := dk_42 (dk_at dksX1_rentOf_0 0 rfl rfl)
theorem dX1_rentOf_1 : decode cX1_rentOf 1 = .ok (.getfield 120, 3) := dk_180 0 120 (dk_at dksX1_rentOf_0 1 rfl rfl)
theorem dX1_rentOf_4 : decode cX1_rentOf 4 = .ok (.aload_n 0, 1) := dk_42 (dk_at dksX1_rentOf_0 4 rfl rfl)
theorem dX1_rentOf_5 : decode cX1_rentOf 5 = .ok (.iload_n 1, 1) := dk_27 (dk_at dksX1_rentOf_0 5 rfl rfl)
theorem dX1_rentOf_6 : decode cX1_rentOf 6 = .ok (.invokevirtual 190, 3) := dk_182 0 190 (dk_at dksX1_rentOf_0 6 rfl rfl)
theorem dX1_rentOf_9 : decode cX1_rentOf 9 = .ok (.invokevirtual 245, 3) := dk_182 0 245 (dk_at dksX1_rentOf_0 9 rfl rfl)
theorem dX1_rentOf_12 : decode cX1_rentOf 12 = .ok (.ireturn, 1) := dk_172 (dk_at dksX1_rentOf_0 12 rfl rfl)
abbrev cX1_loudnessOf : ByteArray := prog_1_method_41_code
def yX1_loudnessOf : MethodName := ⟨RX1, "loudnessOf", "(I)I"⟩
def dkwX1_loudnessOf_0 : List UInt8 := [42, 27, 182, 0, 249, 180, 0, 253, 172]
abbrev dktX1_loudnessOf_0 : List UInt8 := dkwX1_loudnessOf_0 ++ []
theorem dksX1_loudnessOf_0 : cX1_loudnessOf.data.toList.drop 0 = dktX1_loudnessOf_0 := by decide +kernel
theorem dX1_loudnessOf_0 : decode cX1_loudnessOf 0 = .ok (.aload_n 0, 1) := dk_42 (dk_at dksX1_loudnessOf_0 0 rfl rfl)
theorem dX1_loudnessOf_1 : decode cX1_loudnessOf 1 = .ok (.iload_n 1, 1) := dk_27 (dk_at dksX1_loudnessOf_0 1 rfl rfl)
theorem dX1_loudnessOf_2 : decode cX1_loudnessOf 2 = .ok (.invokevirtual 249, 3) := dk_182 0 249 (dk_at dksX1_loudnessOf_0 2 rfl rfl)
theorem dX1_loudnessOf_5 : decode cX1_loudnessOf 5 = .ok (.getfield 253, 3) := dk_180 0 253 (dk_at dksX1_loudnessOf_0 5 rfl rfl)
theorem dX1_loudnessOf_8 : decode cX1_loudnessOf 8 = .ok (.ireturn, 1) := dk_172 (dk_at dksX1_loudnessOf_0 8 rfl rfl)
abbrev cX1_requireFountain : ByteArray := prog_1_method_24_code
def yX1_requireFountain : MethodName := ⟨RX1, "requireFountain", "(I)LBenchBroker$Fountain;"⟩
def dkwX1_requireFountain_1 : List UInt8 := [182, 0, 36, 192, 0, 183, 176]
abbrev dktX1_requireFountain_1 : List UInt8 := dkwX1_requireFountain_1 ++ []
def dkwX1_requireFountain_0 : List UInt8 := [42, 180, 0, 120, 180, 0, 180, 27, 182, 0, 172, 184, 0, 176, 42, 180, 0, 120, 180, 0, 180, 27]
abbrev dktX1_requireFountain_0 : List UInt8 := dkwX1_requireFountain_0 ++ dktX1_requireFountain_1
theorem dksX1_requireFountain_0 : cX1_requireFountain.data.toList.drop 0 = dktX1_requireFountain_0 := by decide +kernel
theorem dksX1_requireFountain_1 : cX1_requireFountain.data.toList.drop 22 = dktX1_requireFountain_1 := dk_seg dksX1_requireFountain_0 22 rfl rfl
theorem dX1_requireFountain_0 : decode cX1_requireFountain 0 = .ok (.aload_n 0, 1) := dk_42 (dk_at dksX1_requireFountain_0 0 rfl rfl)
theorem dX1_requireFountain_1 : decode cX1_requireFountain 1 = .ok (.getfield 120, 3) := dk_180 0 120 (dk_at dksX1_requireFountain_0 1 rfl rfl)
theorem dX1_requireFountain_4 : decode cX1_requireFountain 4 = .ok (.getfield 180, 3) := dk_180 0 180 (dk_at dksX1_requireFountain_0 4 rfl rfl)
theorem dX1_requireFountain_7 : decode cX1_requireFountain 7 = .ok (.iload_n 1, 1) := dk_27 (dk_at dksX1_requireFountain_0 7 rfl rfl)
theorem dX1_requireFountain_8 : decode cX1_requireFountain 8 = .ok (.invokevirtual 172, 3) := dk_182 0 172 (dk_at dksX1_requireFountain_0 8 rfl rfl)
theorem dX1_requireFountain_11 : decode cX1_requireFountain 11 = .ok (.invokestatic 176, 3) := dk_184 0 176 (dk_at dksX1_requireFountain_0 11 rfl rfl)
theorem dX1_requireFountain_14 : decode cX1_requireFountain 14 = .ok (.aload_n 0, 1) := dk_42 (dk_at dksX1_requireFountain_0 14 rfl rfl)
theorem dX1_requireFountain_15 : decode cX1_requireFountain 15 = .ok (.getfield 120, 3) := dk_180 0 120 (dk_at dksX1_requireFountain_0 15 rfl rfl)
theorem dX1_requireFountain_18 : decode cX1_requireFountain 18 = .ok (.getfield 180, 3) := dk_180 0 180 (dk_at dksX1_requireFountain_0 18 rfl rfl)
theorem dX1_requireFountain_21 : decode cX1_requireFountain 21 = .ok (.iload_n 1, 1) := dk_27 (dk_at dksX1_requireFountain_0 21 rfl rfl)
theorem dX1_requireFountain_22 : decode cX1_requireFountain 22 = .ok (.invokevirtual 36, 3) := dk_182 0 36 (dk_at dksX1_requireFountain_1 0 rfl rfl)
theorem dX1_requireFountain_25 : decode cX1_requireFountain 25 = .ok (.checkcast 183, 3) := dk_192 0 183 (dk_at dksX1_requireFountain_1 3 rfl rfl)
theorem dX1_requireFountain_28 : decode cX1_requireFountain 28 = .ok (.areturn, 1) := dk_176 (dk_at dksX1_requireFountain_1 6 rfl rfl)
abbrev cX1_isRunning : ByteArray := prog_1_method_42_code
def yX1_isRunning : MethodName := ⟨RX1, "isRunning", "(I)Z"⟩
def dkwX1_isRunning_0 : List UInt8 := [42, 27, 182, 0, 249, 180, 1, 0, 172]
abbrev dktX1_isRunning_0 : List UInt8 := dkwX1_isRunning_0 ++ []
theorem dksX1_isRunning_0 : cX1_isRunning.data.toList.drop 0 = dktX1_isRunning_0 := by decide +kernel
theorem dX1_isRunning_0 : decode cX1_isRunning 0 = .ok (.aload_n 0, 1) := dk_42 (dk_at dksX1_isRunning_0 0 rfl rfl)
theorem dX1_isRunning_1 : decode cX1_isRunning 1 = .ok (.iload_n 1, 1) := dk_27 (dk_at dksX1_isRunning_0 1 rfl rfl)
theorem dX1_isRunning_2 : decode cX1_isRunning 2 = .ok (.invokevirtual 249, 3) := dk_182 0 249 (dk_at dksX1_isRunning_0 2 rfl rfl)
theorem dX1_isRunning_5 : decode cX1_isRunning 5 = .ok (.getfield 256, 3) := dk_180 1 0 (dk_at dksX1_isRunning_0 5 rfl rfl)
theorem dX1_isRunning_8 : decode cX1_isRunning 8 = .ok (.ireturn, 1) := dk_172 (dk_at dksX1_isRunning_0 8 rfl rfl)
abbrev cX1_noiseAt : ByteArray := prog_1_method_44_code
def yX1_noiseAt : MethodName := ⟨RX1, "noiseAt", "(II)I"⟩
def dkwX1_noiseAt_0 : List UInt8 := [27, 28, 184, 0, 209, 184, 0, 176, 42, 180, 0, 120, 27, 28, 182, 1, 7, 172]
abbrev dktX1_noiseAt_0 : List UInt8 := dkwX1_noiseAt_0 ++ []
theorem dksX1_noiseAt_0 : cX1_noiseAt.data.toList.drop 0 = dktX1_noiseAt_0 := by decide +kernel
theorem dX1_noiseAt_0 : decode cX1_noiseAt 0 = .ok (.iload_n 1, 1) := dk_27 (dk_at dksX1_noiseAt_0 0 rfl rfl)
theorem dX1_noiseAt_1 : decode cX1_noiseAt 1 = .ok (.iload_n 2, 1) := dk_28 (dk_at dksX1_noiseAt_0 1 rfl rfl)
theorem dX1_noiseAt_2 : decode cX1_noiseAt 2 = .ok (.invokestatic 209, 3) := dk_184 0 209 (dk_at dksX1_noiseAt_0 2 rfl rfl)
theorem dX1_noiseAt_5 : decode cX1_noiseAt 5 = .ok (.invokestatic 176, 3) := dk_184 0 176 (dk_at dksX1_noiseAt_0 5 rfl rfl)
theorem dX1_noiseAt_8 : decode cX1_noiseAt 8 = .ok (.aload_n 0, 1) := dk_42 (dk_at dksX1_noiseAt_0 8 rfl rfl)
theorem dX1_noiseAt_9 : decode cX1_noiseAt 9 = .ok (.getfield 120, 3) := dk_180 0 120 (dk_at dksX1_noiseAt_0 9 rfl rfl)
theorem dX1_noiseAt_12 : decode cX1_noiseAt 12 = .ok (.iload_n 1, 1) := dk_27 (dk_at dksX1_noiseAt_0 12 rfl rfl)
theorem dX1_noiseAt_13 : decode cX1_noiseAt 13 = .ok (.iload_n 2, 1) := dk_28 (dk_at dksX1_noiseAt_0 13 rfl rfl)
theorem dX1_noiseAt_14 : decode cX1_noiseAt 14 = .ok (.invokevirtual 263, 3) := dk_182 1 7 (dk_at dksX1_noiseAt_0 14 rfl rfl)
theorem dX1_noiseAt_17 : decode cX1_noiseAt 17 = .ok (.ireturn, 1) := dk_172 (dk_at dksX1_noiseAt_0 17 rfl rfl)
abbrev cX1_noiseBySpreading : ByteArray := prog_1_method_45_code
def yX1_noiseBySpreading : MethodName := ⟨RX1, "noiseBySpreading", "(II)I"⟩
def dkwX1_noiseBySpreading_0 : List UInt8 := [27, 28, 184, 0, 209, 184, 0, 176, 42, 180, 0, 120, 27, 28, 182, 1, 10, 172]
abbrev dktX1_noiseBySpreading_0 : List UInt8 := dkwX1_noiseBySpreading_0 ++ []
theorem dksX1_noiseBySpreading_0 : cX1_noiseBySpreading.data.toList.drop 0 = dktX1_noiseBySpreading_0 := by decide +kernel
theorem dX1_noiseBySpreading_0 : decode cX1_noiseBySpreading 0 = .ok (.iload_n 1, 1) := dk_27 (dk_at dksX1_noiseBySpreading_0 0 rfl rfl)
theorem dX1_noiseBySpreading_1 : decode cX1_noiseBySpreading 1 = .ok (.iload_n 2, 1) := dk_28 (dk_at dksX1_noiseBySpreading_0 1 rfl rfl)
theorem dX1_noiseBySpreading_2 : decode cX1_noiseBySpreading 2 = .ok (.invokestatic 209, 3) := dk_184 0 209 (dk_at dksX1_noiseBySpreading_0 2 rfl rfl)
theorem dX1_noiseBySpreading_5 : decode cX1_noiseBySpreading 5 = .ok (.invokestatic 176, 3) := dk_184 0 176 (dk_at dksX1_noiseBySpreading_0 5 rfl rfl)
theorem dX1_noiseBySpreading_8 : decode cX1_noiseBySpreading 8 = .ok (.aload_n 0, 1) := dk_42 (dk_at dksX1_noiseBySpreading_0 8 rfl rfl)
theorem dX1_noiseBySpreading_9 : decode cX1_noiseBySpreading 9 = .ok (.getfield 120, 3) := dk_180 0 120 (dk_at dksX1_noiseBySpreading_0 9 rfl rfl)
theorem dX1_noiseBySpreading_12 : decode cX1_noiseBySpreading 12 = .ok (.iload_n 1, 1) := dk_27 (dk_at dksX1_noiseBySpreading_0 12 rfl rfl)
theorem dX1_noiseBySpreading_13 : decode cX1_noiseBySpreading 13 = .ok (.iload_n 2, 1) := dk_28 (dk_at dksX1_noiseBySpreading_0 13 rfl rfl)
theorem dX1_noiseBySpreading_14 : decode cX1_noiseBySpreading 14 = .ok (.invokevirtual 266, 3) := dk_182 1 10 (dk_at dksX1_noiseBySpreading_0 14 rfl rfl)
theorem dX1_noiseBySpreading_17 : decode cX1_noiseBySpreading 17 = .ok (.ireturn, 1) := dk_172 (dk_at dksX1_noiseBySpreading_0 17 rfl rfl)
abbrev cX1_isQuiet : ByteArray := prog_1_method_46_code
def yX1_isQuiet : MethodName := ⟨RX1, "isQuiet", "(I)Z"⟩
def dkwX1_isQuiet_0 : List UInt8 := [42, 180, 0, 120, 42, 27, 182, 0, 190, 182, 1, 13, 172]
abbrev dktX1_isQuiet_0 : List UInt8 := dkwX1_isQuiet_0 ++ []
theorem dksX1_isQuiet_0 : cX1_isQuiet.data.toList.drop 0 = dktX1_isQuiet_0 := by decide +kernel
theorem dX1_isQuiet_0 : decode cX1_isQuiet 0 = .ok (.aload_n 0, 1) := dk_42 (dk_at dksX1_isQuiet_0 0 rfl rfl)
theorem dX1_isQuiet_1 : decode cX1_isQuiet 1 = .ok (.getfield 120, 3) := dk_180 0 120 (dk_at dksX1_isQuiet_0 1 rfl rfl)
theorem dX1_isQuiet_4 : decode cX1_isQuiet 4 = .ok (.aload_n 0, 1) := dk_42 (dk_at dksX1_isQuiet_0 4 rfl rfl)
theorem dX1_isQuiet_5 : decode cX1_isQuiet 5 = .ok (.iload_n 1, 1) := dk_27 (dk_at dksX1_isQuiet_0 5 rfl rfl)
theorem dX1_isQuiet_6 : decode cX1_isQuiet 6 = .ok (.invokevirtual 190, 3) := dk_182 0 190 (dk_at dksX1_isQuiet_0 6 rfl rfl)
theorem dX1_isQuiet_9 : decode cX1_isQuiet 9 = .ok (.invokevirtual 269, 3) := dk_182 1 13 (dk_at dksX1_isQuiet_0 9 rfl rfl)
theorem dX1_isQuiet_12 : decode cX1_isQuiet 12 = .ok (.ireturn, 1) := dk_172 (dk_at dksX1_isQuiet_0 12 rfl rfl)
abbrev cX1_addTenant : ByteArray := prog_1_method_48_code
def yX1_addTenant : MethodName := ⟨RX1, "addTenant", "(I)I"⟩
def dkwX1_addTenant_0 : List UInt8 := [27, 184, 1, 20, 184, 0, 216, 42, 187, 0, 219, 89, 16, 116, 2, 2, 27, 183, 0, 221, 182, 0, 224, 172]
abbrev dktX1_addTenant_0 : List UInt8 := dkwX1_addTenant_0 ++ []
theorem dksX1_addTenant_0 : cX1_addTenant.data.toList.drop 0 = dktX1_addTenant_0 := by decide +kernel
theorem dX1_addTenant_0 : decode cX1_addTenant 0 = .ok (.iload_n 1, 1) := dk_27 (dk_at dksX1_addTenant_0 0 rfl rfl)
theorem dX1_addTenant_1 : decode cX1_addTenant 1 = .ok (.invokestatic 276, 3) := dk_184 1 20 (dk_at dksX1_addTenant_0 1 rfl rfl)
theorem dX1_addTenant_4 : decode cX1_addTenant 4 = .ok (.invokestatic 216, 3) := dk_184 0 216 (dk_at dksX1_addTenant_0 4 rfl rfl)
theorem dX1_addTenant_7 : decode cX1_addTenant 7 = .ok (.aload_n 0, 1) := dk_42 (dk_at dksX1_addTenant_0 7 rfl rfl)
theorem dX1_addTenant_8 : decode cX1_addTenant 8 = .ok (.new 219, 3) := dk_187 0 219 (dk_at dksX1_addTenant_0 8 rfl rfl)
theorem dX1_addTenant_11 : decode cX1_addTenant 11 = .ok (.dup, 1) := dk_89 (dk_at dksX1_addTenant_0 11 rfl rfl)
theorem dX1_addTenant_12 : decode cX1_addTenant 12 = .ok (.bipush 116, 2) := dk_16 116 (dk_at dksX1_addTenant_0 12 rfl rfl)
theorem dX1_addTenant_14 : decode cX1_addTenant 14 = .ok (.iconst (-1), 1) := dk_2 (dk_at dksX1_addTenant_0 14 rfl rfl)
theorem dX1_addTenant_15 : decode cX1_addTenant 15 = .ok (.iconst (-1), 1) := dk_2 (dk_at dksX1_addTenant_0 15 rfl rfl)
theorem dX1_addTenant_16 : decode cX1_addTenant 16 = .ok (.iload_n 1, 1) := dk_27 (dk_at dksX1_addTenant_0 16 rfl rfl)
theorem dX1_addTenant_17 : decode cX1_addTenant 17 = .ok (.invokespecial 221, 3) := dk_183 0 221 (dk_at dksX1_addTenant_0 17 rfl rfl)
theorem dX1_addTenant_20 : decode cX1_addTenant 20 = .ok (.invokevirtual 224, 3) := dk_182 0 224 (dk_at dksX1_addTenant_0 20 rfl rfl)
theorem dX1_addTenant_23 : decode cX1_addTenant 23 = .ok (.ireturn, 1) := dk_172 (dk_at dksX1_addTenant_0 23 rfl rfl)
abbrev cX1_isPurse : ByteArray := prog_1_method_6_code
def yX1_isPurse : MethodName := ⟨RX1, "isPurse", "(I)Z"⟩
def dkwX1_isPurse_0 : List UInt8 := [26, 3, 16, 99, 184, 0, 3, 172]
abbrev dktX1_isPurse_0 : List UInt8 := dkwX1_isPurse_0 ++ []
theorem dksX1_isPurse_0 : cX1_isPurse.data.toList.drop 0 = dktX1_isPurse_0 := by decide +kernel
theorem dX1_isPurse_0 : decode cX1_isPurse 0 = .ok (.iload_n 0, 1) := dk_26 (dk_at dksX1_isPurse_0 0 rfl rfl)
theorem dX1_isPurse_1 : decode cX1_isPurse 1 = .ok (.iconst 0, 1) := dk_3 (dk_at dksX1_isPurse_0 1 rfl rfl)
theorem dX1_isPurse_2 : decode cX1_isPurse 2 = .ok (.bipush 99, 2) := dk_16 99 (dk_at dksX1_isPurse_0 2 rfl rfl)
theorem dX1_isPurse_4 : decode cX1_isPurse 4 = .ok (.invokestatic 3, 3) := dk_184 0 3 (dk_at dksX1_isPurse_0 4 rfl rfl)
theorem dX1_isPurse_7 : decode cX1_isPurse 7 = .ok (.ireturn, 1) := dk_172 (dk_at dksX1_isPurse_0 7 rfl rfl)
abbrev cX1_giveCoins : ByteArray := prog_1_method_49_code
def yX1_giveCoins : MethodName := ⟨RX1, "giveCoins", "(II)I"⟩
def dkwX1_giveCoins_1 : List UInt8 := [187, 0, 237, 89, 16, 103, 27, 28, 183, 0, 239, 182, 0, 224, 172]
abbrev dktX1_giveCoins_1 : List UInt8 := dkwX1_giveCoins_1 ++ []
def dkwX1_giveCoins_0 : List UInt8 := [42, 180, 0, 120, 180, 0, 185, 27, 182, 0, 172, 184, 0, 176, 28, 184, 1, 23, 184, 0, 216, 42]
abbrev dktX1_giveCoins_0 : List UInt8 := dkwX1_giveCoins_0 ++ dktX1_giveCoins_1
theorem dksX1_giveCoins_0 : cX1_giveCoins.data.toList.drop 0 = dktX1_giveCoins_0 := by decide +kernel
theorem dksX1_giveCoins_1 : cX1_giveCoins.data.toList.drop 22 = dktX1_giveCoins_1 := dk_seg dksX1_giveCoins_0 22 rfl rfl
theorem dX1_giveCoins_0 : decode cX1_giveCoins 0 = .ok (.aload_n 0, 1) := dk_42 (dk_at dksX1_giveCoins_0 0 rfl rfl)
theorem dX1_giveCoins_1 : decode cX1_giveCoins 1 = .ok (.getfield 120, 3) := dk_180 0 120 (dk_at dksX1_giveCoins_0 1 rfl rfl)
theorem dX1_giveCoins_4 : decode cX1_giveCoins 4 = .ok (.getfield 185, 3) := dk_180 0 185 (dk_at dksX1_giveCoins_0 4 rfl rfl)
theorem dX1_giveCoins_7 : decode cX1_giveCoins 7 = .ok (.iload_n 1, 1) := dk_27 (dk_at dksX1_giveCoins_0 7 rfl rfl)
theorem dX1_giveCoins_8 : decode cX1_giveCoins 8 = .ok (.invokevirtual 172, 3) := dk_182 0 172 (dk_at dksX1_giveCoins_0 8 rfl rfl)
theorem dX1_giveCoins_11 : decode cX1_giveCoins 11 = .ok (.invokestatic 176, 3) := dk_184 0 176 (dk_at dksX1_giveCoins_0 11 rfl rfl)
theorem dX1_giveCoins_14 : decode cX1_giveCoins 14 = .ok (.iload_n 2, 1) := dk_28 (dk_at dksX1_giveCoins_0 14 rfl rfl)
theorem dX1_giveCoins_15 : decode cX1_giveCoins 15 = .ok (.invokestatic 279, 3) := dk_184 1 23 (dk_at dksX1_giveCoins_0 15 rfl rfl)
theorem dX1_giveCoins_18 : decode cX1_giveCoins 18 = .ok (.invokestatic 216, 3) := dk_184 0 216 (dk_at dksX1_giveCoins_0 18 rfl rfl)
theorem dX1_giveCoins_21 : decode cX1_giveCoins 21 = .ok (.aload_n 0, 1) := dk_42 (dk_at dksX1_giveCoins_0 21 rfl rfl)
theorem dX1_giveCoins_22 : decode cX1_giveCoins 22 = .ok (.new 237, 3) := dk_187 0 237 (dk_at dksX1_giveCoins_1 0 rfl rfl)
theorem dX1_giveCoins_25 : decode cX1_giveCoins 25 = .ok (.dup, 1) := dk_89 (dk_at dksX1_giveCoins_1 3 rfl rfl)
theorem dX1_giveCoins_26 : decode cX1_giveCoins 26 = .ok (.bipush 103, 2) := dk_16 103 (dk_at dksX1_giveCoins_1 4 rfl rfl)
theorem dX1_giveCoins_28 : decode cX1_giveCoins 28 = .ok (.iload_n 1, 1) := dk_27 (dk_at dksX1_giveCoins_1 6 rfl rfl)
theorem dX1_giveCoins_29 : decode cX1_giveCoins 29 = .ok (.iload_n 2, 1) := dk_28 (dk_at dksX1_giveCoins_1 7 rfl rfl)
theorem dX1_giveCoins_30 : decode cX1_giveCoins 30 = .ok (.invokespecial 239, 3) := dk_183 0 239 (dk_at dksX1_giveCoins_1 8 rfl rfl)
theorem dX1_giveCoins_33 : decode cX1_giveCoins 33 = .ok (.invokevirtual 224, 3) := dk_182 0 224 (dk_at dksX1_giveCoins_1 11 rfl rfl)
theorem dX1_giveCoins_36 : decode cX1_giveCoins 36 = .ok (.ireturn, 1) := dk_172 (dk_at dksX1_giveCoins_1 14 rfl rfl)
abbrev cX1_isGift : ByteArray := prog_1_method_7_code
def yX1_isGift : MethodName := ⟨RX1, "isGift", "(I)Z"⟩
def dkwX1_isGift_0 : List UInt8 := [26, 4, 16, 99, 184, 0, 3, 172]
abbrev dktX1_isGift_0 : List UInt8 := dkwX1_isGift_0 ++ []
theorem dksX1_isGift_0 : cX1_isGift.data.toList.drop 0 = dktX1_isGift_0 := by decide +kernel
theorem dX1_isGift_0 : decode cX1_isGift 0 = .ok (.iload_n 0, 1) := dk_26 (dk_at dksX1_isGift_0 0 rfl rfl)
theorem dX1_isGift_1 : decode cX1_isGift 1 = .ok (.iconst 1, 1) := dk_4 (dk_at dksX1_isGift_0 1 rfl rfl)
theorem dX1_isGift_2 : decode cX1_isGift 2 = .ok (.bipush 99, 2) := dk_16 99 (dk_at dksX1_isGift_0 2 rfl rfl)
theorem dX1_isGift_4 : decode cX1_isGift 4 = .ok (.invokestatic 3, 3) := dk_184 0 3 (dk_at dksX1_isGift_0 4 rfl rfl)
theorem dX1_isGift_7 : decode cX1_isGift 7 = .ok (.ireturn, 1) := dk_172 (dk_at dksX1_isGift_0 7 rfl rfl)
abbrev cX1_coinsOf : ByteArray := prog_1_method_51_code
def yX1_coinsOf : MethodName := ⟨RX1, "coinsOf", "(I)I"⟩
def dkwX1_coinsOf_0 : List UInt8 := [42, 27, 182, 1, 26, 180, 1, 30, 172]
abbrev dktX1_coinsOf_0 : List UInt8 := dkwX1_coinsOf_0 ++ []
theorem dksX1_coinsOf_0 : cX1_coinsOf.data.toList.drop 0 = dktX1_coinsOf_0 := by decide +kernel
theorem dX1_coinsOf_0 : decode cX1_coinsOf 0 = .ok (.aload_n 0, 1) := dk_42 (dk_at dksX1_coinsOf_0 0 rfl rfl)
theorem dX1_coinsOf_1 : decode cX1_coinsOf 1 = .ok (.iload_n 1, 1) := dk_27 (dk_at dksX1_coinsOf_0 1 rfl rfl)
theorem dX1_coinsOf_2 : decode cX1_coinsOf 2 = .ok (.invokevirtual 282, 3) := dk_182 1 26 (dk_at dksX1_coinsOf_0 2 rfl rfl)
theorem dX1_coinsOf_5 : decode cX1_coinsOf 5 = .ok (.getfield 286, 3) := dk_180 1 30 (dk_at dksX1_coinsOf_0 5 rfl rfl)
theorem dX1_coinsOf_8 : decode cX1_coinsOf 8 = .ok (.ireturn, 1) := dk_172 (dk_at dksX1_coinsOf_0 8 rfl rfl)
abbrev cX1_requireTenant : ByteArray := prog_1_method_25_code
def yX1_requireTenant : MethodName := ⟨RX1, "requireTenant", "(I)LBenchBroker$Tenant;"⟩
def dkwX1_requireTenant_1 : List UInt8 := [182, 0, 36, 192, 0, 188, 176]
abbrev dktX1_requireTenant_1 : List UInt8 := dkwX1_requireTenant_1 ++ []
def dkwX1_requireTenant_0 : List UInt8 := [42, 180, 0, 120, 180, 0, 185, 27, 182, 0, 172, 184, 0, 176, 42, 180, 0, 120, 180, 0, 185, 27]
abbrev dktX1_requireTenant_0 : List UInt8 := dkwX1_requireTenant_0 ++ dktX1_requireTenant_1
theorem dksX1_requireTenant_0 : cX1_requireTenant.data.toList.drop 0 = dktX1_requireTenant_0 := by decide +kernel
theorem dksX1_requireTenant_1 : cX1_requireTenant.data.toList.drop 22 = dktX1_requireTenant_1 := dk_seg dksX1_requireTenant_0 22 rfl rfl
theorem dX1_requireTenant_0 : decode cX1_requireTenant 0 = .ok (.aload_n 0, 1) := dk_42 (dk_at dksX1_requireTenant_0 0 rfl rfl)
theorem dX1_requireTenant_1 : decode cX1_requireTenant 1 = .ok (.getfield 120, 3) := dk_180 0 120 (dk_at dksX1_requireTenant_0 1 rfl rfl)
theorem dX1_requireTenant_4 : decode cX1_requireTenant 4 = .ok (.getfield 185, 3) := dk_180 0 185 (dk_at dksX1_requireTenant_0 4 rfl rfl)
theorem dX1_requireTenant_7 : decode cX1_requireTenant 7 = .ok (.iload_n 1, 1) := dk_27 (dk_at dksX1_requireTenant_0 7 rfl rfl)
theorem dX1_requireTenant_8 : decode cX1_requireTenant 8 = .ok (.invokevirtual 172, 3) := dk_182 0 172 (dk_at dksX1_requireTenant_0 8 rfl rfl)
theorem dX1_requireTenant_11 : decode cX1_requireTenant 11 = .ok (.invokestatic 176, 3) := dk_184 0 176 (dk_at dksX1_requireTenant_0 11 rfl rfl)
theorem dX1_requireTenant_14 : decode cX1_requireTenant 14 = .ok (.aload_n 0, 1) := dk_42 (dk_at dksX1_requireTenant_0 14 rfl rfl)
theorem dX1_requireTenant_15 : decode cX1_requireTenant 15 = .ok (.getfield 120, 3) := dk_180 0 120 (dk_at dksX1_requireTenant_0 15 rfl rfl)
theorem dX1_requireTenant_18 : decode cX1_requireTenant 18 = .ok (.getfield 185, 3) := dk_180 0 185 (dk_at dksX1_requireTenant_0 18 rfl rfl)
theorem dX1_requireTenant_21 : decode cX1_requireTenant 21 = .ok (.iload_n 1, 1) := dk_27 (dk_at dksX1_requireTenant_0 21 rfl rfl)
theorem dX1_requireTenant_22 : decode cX1_requireTenant 22 = .ok (.invokevirtual 36, 3) := dk_182 0 36 (dk_at dksX1_requireTenant_1 0 rfl rfl)
theorem dX1_requireTenant_25 : decode cX1_requireTenant 25 = .ok (.checkcast 188, 3) := dk_192 0 188 (dk_at dksX1_requireTenant_1 3 rfl rfl)
theorem dX1_requireTenant_28 : decode cX1_requireTenant 28 = .ok (.areturn, 1) := dk_176 (dk_at dksX1_requireTenant_1 6 rfl rfl)
abbrev cX1_defaultsOf : ByteArray := prog_1_method_52_code
def yX1_defaultsOf : MethodName := ⟨RX1, "defaultsOf", "(I)I"⟩
def dkwX1_defaultsOf_0 : List UInt8 := [42, 27, 182, 1, 26, 180, 1, 33, 172]
abbrev dktX1_defaultsOf_0 : List UInt8 := dkwX1_defaultsOf_0 ++ []
theorem dksX1_defaultsOf_0 : cX1_defaultsOf.data.toList.drop 0 = dktX1_defaultsOf_0 := by decide +kernel
theorem dX1_defaultsOf_0 : decode cX1_defaultsOf 0 = .ok (.aload_n 0, 1) := dk_42 (dk_at dksX1_defaultsOf_0 0 rfl rfl)
theorem dX1_defaultsOf_1 : decode cX1_defaultsOf 1 = .ok (.iload_n 1, 1) := dk_27 (dk_at dksX1_defaultsOf_0 1 rfl rfl)
theorem dX1_defaultsOf_2 : decode cX1_defaultsOf 2 = .ok (.invokevirtual 282, 3) := dk_182 1 26 (dk_at dksX1_defaultsOf_0 2 rfl rfl)
theorem dX1_defaultsOf_5 : decode cX1_defaultsOf 5 = .ok (.getfield 289, 3) := dk_180 1 33 (dk_at dksX1_defaultsOf_0 5 rfl rfl)
theorem dX1_defaultsOf_8 : decode cX1_defaultsOf 8 = .ok (.ireturn, 1) := dk_172 (dk_at dksX1_defaultsOf_0 8 rfl rfl)
abbrev cX1_benchOf : ByteArray := prog_1_method_53_code
def yX1_benchOf : MethodName := ⟨RX1, "benchOf", "(I)I"⟩
def dkwX1_benchOf_1 : List UInt8 := [180, 1, 36, 182, 0, 64, 172]
abbrev dktX1_benchOf_1 : List UInt8 := dkwX1_benchOf_1 ++ []
def dkwX1_benchOf_0 : List UInt8 := [42, 27, 182, 1, 26, 77, 44, 180, 1, 36, 198, 0, 7, 4, 167, 0, 4, 3, 184, 0, 197, 44]
abbrev dktX1_benchOf_0 : List UInt8 := dkwX1_benchOf_0 ++ dktX1_benchOf_1
theorem dksX1_benchOf_0 : cX1_benchOf.data.toList.drop 0 = dktX1_benchOf_0 := by decide +kernel
theorem dksX1_benchOf_1 : cX1_benchOf.data.toList.drop 22 = dktX1_benchOf_1 := dk_seg dksX1_benchOf_0 22 rfl rfl
theorem dX1_benchOf_0 : decode cX1_benchOf 0 = .ok (.aload_n 0, 1) := dk_42 (dk_at dksX1_benchOf_0 0 rfl rfl)
theorem dX1_benchOf_1 : decode cX1_benchOf 1 = .ok (.iload_n 1, 1) := dk_27 (dk_at dksX1_benchOf_0 1 rfl rfl)
theorem dX1_benchOf_2 : decode cX1_benchOf 2 = .ok (.invokevirtual 282, 3) := dk_182 1 26 (dk_at dksX1_benchOf_0 2 rfl rfl)
theorem dX1_benchOf_5 : decode cX1_benchOf 5 = .ok (.astore_n 2, 1) := dk_77 (dk_at dksX1_benchOf_0 5 rfl rfl)
theorem dX1_benchOf_6 : decode cX1_benchOf 6 = .ok (.aload_n 2, 1) := dk_44 (dk_at dksX1_benchOf_0 6 rfl rfl)
theorem dX1_benchOf_7 : decode cX1_benchOf 7 = .ok (.getfield 292, 3) := dk_180 1 36 (dk_at dksX1_benchOf_0 7 rfl rfl)
theorem dX1_benchOf_10 : decode cX1_benchOf 10 = .ok (.ifnull 7, 3) := dk_198 0 7 (dk_at dksX1_benchOf_0 10 rfl rfl)
theorem dX1_benchOf_13 : decode cX1_benchOf 13 = .ok (.iconst 1, 1) := dk_4 (dk_at dksX1_benchOf_0 13 rfl rfl)
theorem dX1_benchOf_14 : decode cX1_benchOf 14 = .ok (.goto 4, 3) := dk_167 0 4 (dk_at dksX1_benchOf_0 14 rfl rfl)
theorem dX1_benchOf_17 : decode cX1_benchOf 17 = .ok (.iconst 0, 1) := dk_3 (dk_at dksX1_benchOf_0 17 rfl rfl)
theorem dX1_benchOf_18 : decode cX1_benchOf 18 = .ok (.invokestatic 197, 3) := dk_184 0 197 (dk_at dksX1_benchOf_0 18 rfl rfl)
theorem dX1_benchOf_21 : decode cX1_benchOf 21 = .ok (.aload_n 2, 1) := dk_44 (dk_at dksX1_benchOf_0 21 rfl rfl)
theorem dX1_benchOf_22 : decode cX1_benchOf 22 = .ok (.getfield 292, 3) := dk_180 1 36 (dk_at dksX1_benchOf_1 0 rfl rfl)
theorem dX1_benchOf_25 : decode cX1_benchOf 25 = .ok (.invokevirtual 64, 3) := dk_182 0 64 (dk_at dksX1_benchOf_1 3 rfl rfl)
theorem dX1_benchOf_28 : decode cX1_benchOf 28 = .ok (.ireturn, 1) := dk_172 (dk_at dksX1_benchOf_1 6 rfl rfl)
abbrev cX1_requireElement : ByteArray := prog_1_method_13_code
def yX1_requireElement : MethodName := ⟨RX1, "requireElement", "(Z)V"⟩
def dkwX1_requireElement_0 : List UInt8 := [26, 154, 0, 11, 187, 0, 19, 89, 183, 0, 21, 191, 177]
abbrev dktX1_requireElement_0 : List UInt8 := dkwX1_requireElement_0 ++ []
theorem dksX1_requireElement_0 : cX1_requireElement.data.toList.drop 0 = dktX1_requireElement_0 := by decide +kernel
theorem dX1_requireElement_0 : decode cX1_requireElement 0 = .ok (.iload_n 0, 1) := dk_26 (dk_at dksX1_requireElement_0 0 rfl rfl)
theorem dX1_requireElement_1 : decode cX1_requireElement 1 = .ok (.ifCond .ne 11, 3) := dk_154 0 11 (dk_at dksX1_requireElement_0 1 rfl rfl)
theorem dX1_requireElement_4 : decode cX1_requireElement 4 = .ok (.new 19, 3) := dk_187 0 19 (dk_at dksX1_requireElement_0 4 rfl rfl)
theorem dX1_requireElement_7 : decode cX1_requireElement 7 = .ok (.dup, 1) := dk_89 (dk_at dksX1_requireElement_0 7 rfl rfl)
theorem dX1_requireElement_8 : decode cX1_requireElement 8 = .ok (.invokespecial 21, 3) := dk_183 0 21 (dk_at dksX1_requireElement_0 8 rfl rfl)
theorem dX1_requireElement_11 : decode cX1_requireElement 11 = .ok (.athrow, 1) := dk_191 (dk_at dksX1_requireElement_0 11 rfl rfl)
theorem dX1_requireElement_12 : decode cX1_requireElement 12 = .ok (.return_, 1) := dk_177 (dk_at dksX1_requireElement_0 12 rfl rfl)
abbrev cX1_canLease : ByteArray := prog_1_method_54_code
def yX1_canLease : MethodName := ⟨RX1, "canLease", "(II)Z"⟩
def dkwX1_canLease_1 : List UInt8 := [3, 172]
abbrev dktX1_canLease_1 : List UInt8 := dkwX1_canLease_1 ++ []
def dkwX1_canLease_0 : List UInt8 := [42, 180, 0, 120, 42, 27, 182, 1, 26, 42, 28, 182, 0, 190, 182, 1, 40, 199, 0, 7, 4, 167, 0, 4]
abbrev dktX1_canLease_0 : List UInt8 := dkwX1_canLease_0 ++ dktX1_canLease_1
theorem dksX1_canLease_0 : cX1_canLease.data.toList.drop 0 = dktX1_canLease_0 := by decide +kernel
theorem dksX1_canLease_1 : cX1_canLease.data.toList.drop 24 = dktX1_canLease_1 := dk_seg dksX1_canLease_0 24 rfl rfl
theorem dX1_canLease_0 : decode cX1_canLease 0 = .ok (.aload_n 0, 1) := dk_42 (dk_at dksX1_canLease_0 0 rfl rfl)
theorem dX1_canLease_1 : decode cX1_canLease 1 = .ok (.getfield 120, 3) := dk_180 0 120 (dk_at dksX1_canLease_0 1 rfl rfl)
theorem dX1_canLease_4 : decode cX1_canLease 4 = .ok (.aload_n 0, 1) := dk_42 (dk_at dksX1_canLease_0 4 rfl rfl)
theorem dX1_canLease_5 : decode cX1_canLease 5 = .ok (.iload_n 1, 1) := dk_27 (dk_at dksX1_canLease_0 5 rfl rfl)
theorem dX1_canLease_6 : decode cX1_canLease 6 = .ok (.invokevirtual 282, 3) := dk_182 1 26 (dk_at dksX1_canLease_0 6 rfl rfl)
theorem dX1_canLease_9 : decode cX1_canLease 9 = .ok (.aload_n 0, 1) := dk_42 (dk_at dksX1_canLease_0 9 rfl rfl)
theorem dX1_canLease_10 : decode cX1_canLease 10 = .ok (.iload_n 2, 1) := dk_28 (dk_at dksX1_canLease_0 10 rfl rfl)
theorem dX1_canLease_11 : decode cX1_canLease 11 = .ok (.invokevirtual 190, 3) := dk_182 0 190 (dk_at dksX1_canLease_0 11 rfl rfl)
theorem dX1_canLease_14 : decode cX1_canLease 14 = .ok (.invokevirtual 296, 3) := dk_182 1 40 (dk_at dksX1_canLease_0 14 rfl rfl)
theorem dX1_canLease_17 : decode cX1_canLease 17 = .ok (.ifnonnull 7, 3) := dk_199 0 7 (dk_at dksX1_canLease_0 17 rfl rfl)
theorem dX1_canLease_20 : decode cX1_canLease 20 = .ok (.iconst 1, 1) := dk_4 (dk_at dksX1_canLease_0 20 rfl rfl)
theorem dX1_canLease_21 : decode cX1_canLease 21 = .ok (.goto 4, 3) := dk_167 0 4 (dk_at dksX1_canLease_0 21 rfl rfl)
theorem dX1_canLease_24 : decode cX1_canLease 24 = .ok (.iconst 0, 1) := dk_3 (dk_at dksX1_canLease_1 0 rfl rfl)
theorem dX1_canLease_25 : decode cX1_canLease 25 = .ok (.ireturn, 1) := dk_172 (dk_at dksX1_canLease_1 1 rfl rfl)
abbrev cX1_cheapestFor : ByteArray := prog_1_method_55_code
def yX1_cheapestFor : MethodName := ⟨RX1, "cheapestFor", "(I)I"⟩
def dkwX1_cheapestFor_0 : List UInt8 := [42, 180, 0, 120, 42, 27, 182, 1, 26, 182, 1, 44, 184, 1, 48, 172]
abbrev dktX1_cheapestFor_0 : List UInt8 := dkwX1_cheapestFor_0 ++ []
theorem dksX1_cheapestFor_0 : cX1_cheapestFor.data.toList.drop 0 = dktX1_cheapestFor_0 := by decide +kernel
theorem dX1_cheapestFor_0 : decode cX1_cheapestFor 0 = .ok (.aload_n 0, 1) := dk_42 (dk_at dksX1_cheapestFor_0 0 rfl rfl)
theorem dX1_cheapestFor_1 : decode cX1_cheapestFor 1 = .ok (.getfield 120, 3) := dk_180 0 120 (dk_at dksX1_cheapestFor_0 1 rfl rfl)
theorem dX1_cheapestFor_4 : decode cX1_cheapestFor 4 = .ok (.aload_n 0, 1) := dk_42 (dk_at dksX1_cheapestFor_0 4 rfl rfl)
theorem dX1_cheapestFor_5 : decode cX1_cheapestFor 5 = .ok (.iload_n 1, 1) := dk_27 (dk_at dksX1_cheapestFor_0 5 rfl rfl)
theorem dX1_cheapestFor_6 : decode cX1_cheapestFor 6 = .ok (.invokevirtual 282, 3) := dk_182 1 26 (dk_at dksX1_cheapestFor_0 6 rfl rfl)
theorem dX1_cheapestFor_9 : decode cX1_cheapestFor 9 = .ok (.invokevirtual 300, 3) := dk_182 1 44 (dk_at dksX1_cheapestFor_0 9 rfl rfl)
theorem dX1_cheapestFor_12 : decode cX1_cheapestFor 12 = .ok (.invokestatic 304, 3) := dk_184 1 48 (dk_at dksX1_cheapestFor_0 12 rfl rfl)
theorem dX1_cheapestFor_15 : decode cX1_cheapestFor 15 = .ok (.ireturn, 1) := dk_172 (dk_at dksX1_cheapestFor_0 15 rfl rfl)
abbrev cX1_requireFound : ByteArray := prog_1_method_27_code
def yX1_requireFound : MethodName := ⟨RX1, "requireFound", "(I)I"⟩
def dkwX1_requireFound_0 : List UInt8 := [26, 2, 159, 0, 7, 4, 167, 0, 4, 3, 184, 0, 197, 26, 172]
abbrev dktX1_requireFound_0 : List UInt8 := dkwX1_requireFound_0 ++ []
theorem dksX1_requireFound_0 : cX1_requireFound.data.toList.drop 0 = dktX1_requireFound_0 := by decide +kernel
theorem dX1_requireFound_0 : decode cX1_requireFound 0 = .ok (.iload_n 0, 1) := dk_26 (dk_at dksX1_requireFound_0 0 rfl rfl)
theorem dX1_requireFound_1 : decode cX1_requireFound 1 = .ok (.iconst (-1), 1) := dk_2 (dk_at dksX1_requireFound_0 1 rfl rfl)
theorem dX1_requireFound_2 : decode cX1_requireFound 2 = .ok (.if_icmp .eq 7, 3) := dk_159 0 7 (dk_at dksX1_requireFound_0 2 rfl rfl)
theorem dX1_requireFound_5 : decode cX1_requireFound 5 = .ok (.iconst 1, 1) := dk_4 (dk_at dksX1_requireFound_0 5 rfl rfl)
theorem dX1_requireFound_6 : decode cX1_requireFound 6 = .ok (.goto 4, 3) := dk_167 0 4 (dk_at dksX1_requireFound_0 6 rfl rfl)
theorem dX1_requireFound_9 : decode cX1_requireFound 9 = .ok (.iconst 0, 1) := dk_3 (dk_at dksX1_requireFound_0 9 rfl rfl)
theorem dX1_requireFound_10 : decode cX1_requireFound 10 = .ok (.invokestatic 197, 3) := dk_184 0 197 (dk_at dksX1_requireFound_0 10 rfl rfl)
theorem dX1_requireFound_13 : decode cX1_requireFound 13 = .ok (.iload_n 0, 1) := dk_26 (dk_at dksX1_requireFound_0 13 rfl rfl)
theorem dX1_requireFound_14 : decode cX1_requireFound 14 = .ok (.ireturn, 1) := dk_172 (dk_at dksX1_requireFound_0 14 rfl rfl)
abbrev cX1_lease : ByteArray := prog_1_method_56_code
def yX1_lease : MethodName := ⟨RX1, "lease", "(III)I"⟩
def dkwX1_lease_2 : List UInt8 := [187, 1, 55, 89, 16, 108, 27, 28, 29, 183, 1, 57, 182, 0, 224, 172]
abbrev dktX1_lease_2 : List UInt8 := dkwX1_lease_2 ++ []
def dkwX1_lease_1 : List UInt8 := [182, 0, 172, 153, 0, 7, 4, 167, 0, 4, 3, 184, 0, 176, 29, 184, 1, 52, 184, 0, 216, 42]
abbrev dktX1_lease_1 : List UInt8 := dkwX1_lease_1 ++ dktX1_lease_2
def dkwX1_lease_0 : List UInt8 := [42, 180, 0, 120, 180, 0, 185, 27, 182, 0, 172, 153, 0, 21, 42, 180, 0, 120, 180, 0, 168, 28]
abbrev dktX1_lease_0 : List UInt8 := dkwX1_lease_0 ++ dktX1_lease_1
theorem dksX1_lease_0 : cX1_lease.data.toList.drop 0 = dktX1_lease_0 := by decide +kernel
theorem dksX1_lease_1 : cX1_lease.data.toList.drop 22 = dktX1_lease_1 := dk_seg dksX1_lease_0 22 rfl rfl
theorem dksX1_lease_2 : cX1_lease.data.toList.drop 44 = dktX1_lease_2 := dk_seg dksX1_lease_1 22 rfl rfl
theorem dX1_lease_0 : decode cX1_lease 0 = .ok (.aload_n 0, 1) := dk_42 (dk_at dksX1_lease_0 0 rfl rfl)
theorem dX1_lease_1 : decode cX1_lease 1 = .ok (.getfield 120, 3) := dk_180 0 120 (dk_at dksX1_lease_0 1 rfl rfl)
theorem dX1_lease_4 : decode cX1_lease 4 = .ok (.getfield 185, 3) := dk_180 0 185 (dk_at dksX1_lease_0 4 rfl rfl)
theorem dX1_lease_7 : decode cX1_lease 7 = .ok (.iload_n 1, 1) := dk_27 (dk_at dksX1_lease_0 7 rfl rfl)
theorem dX1_lease_8 : decode cX1_lease 8 = .ok (.invokevirtual 172, 3) := dk_182 0 172 (dk_at dksX1_lease_0 8 rfl rfl)
theorem dX1_lease_11 : decode cX1_lease 11 = .ok (.ifCond .eq 21, 3) := dk_153 0 21 (dk_at dksX1_lease_0 11 rfl rfl)
theorem dX1_lease_14 : decode cX1_lease 14 = .ok (.aload_n 0, 1) := dk_42 (dk_at dksX1_lease_0 14 rfl rfl)
theorem dX1_lease_15 : decode cX1_lease 15 = .ok (.getfield 120, 3) := dk_180 0 120 (dk_at dksX1_lease_0 15 rfl rfl)
theorem dX1_lease_18 : decode cX1_lease 18 = .ok (.getfield 168, 3) := dk_180 0 168 (dk_at dksX1_lease_0 18 rfl rfl)
theorem dX1_lease_21 : decode cX1_lease 21 = .ok (.iload_n 2, 1) := dk_28 (dk_at dksX1_lease_0 21 rfl rfl)
theorem dX1_lease_22 : decode cX1_lease 22 = .ok (.invokevirtual 172, 3) := dk_182 0 172 (dk_at dksX1_lease_1 0 rfl rfl)
theorem dX1_lease_25 : decode cX1_lease 25 = .ok (.ifCond .eq 7, 3) := dk_153 0 7 (dk_at dksX1_lease_1 3 rfl rfl)
theorem dX1_lease_28 : decode cX1_lease 28 = .ok (.iconst 1, 1) := dk_4 (dk_at dksX1_lease_1 6 rfl rfl)
theorem dX1_lease_29 : decode cX1_lease 29 = .ok (.goto 4, 3) := dk_167 0 4 (dk_at dksX1_lease_1 7 rfl rfl)
theorem dX1_lease_32 : decode cX1_lease 32 = .ok (.iconst 0, 1) := dk_3 (dk_at dksX1_lease_1 10 rfl rfl)
theorem dX1_lease_33 : decode cX1_lease 33 = .ok (.invokestatic 176, 3) := dk_184 0 176 (dk_at dksX1_lease_1 11 rfl rfl)
theorem dX1_lease_36 : decode cX1_lease 36 = .ok (.iload_n 3, 1) := dk_29 (dk_at dksX1_lease_1 14 rfl rfl)
theorem dX1_lease_37 : decode cX1_lease 37 = .ok (.invokestatic 308, 3) := dk_184 1 52 (dk_at dksX1_lease_1 15 rfl rfl)
theorem dX1_lease_40 : decode cX1_lease 40 = .ok (.invokestatic 216, 3) := dk_184 0 216 (dk_at dksX1_lease_1 18 rfl rfl)
theorem dX1_lease_43 : decode cX1_lease 43 = .ok (.aload_n 0, 1) := dk_42 (dk_at dksX1_lease_1 21 rfl rfl)
theorem dX1_lease_44 : decode cX1_lease 44 = .ok (.new 311, 3) := dk_187 1 55 (dk_at dksX1_lease_2 0 rfl rfl)
theorem dX1_lease_47 : decode cX1_lease 47 = .ok (.dup, 1) := dk_89 (dk_at dksX1_lease_2 3 rfl rfl)
theorem dX1_lease_48 : decode cX1_lease 48 = .ok (.bipush 108, 2) := dk_16 108 (dk_at dksX1_lease_2 4 rfl rfl)
theorem dX1_lease_50 : decode cX1_lease 50 = .ok (.iload_n 1, 1) := dk_27 (dk_at dksX1_lease_2 6 rfl rfl)
theorem dX1_lease_51 : decode cX1_lease 51 = .ok (.iload_n 2, 1) := dk_28 (dk_at dksX1_lease_2 7 rfl rfl)
theorem dX1_lease_52 : decode cX1_lease 52 = .ok (.iload_n 3, 1) := dk_29 (dk_at dksX1_lease_2 8 rfl rfl)
theorem dX1_lease_53 : decode cX1_lease 53 = .ok (.invokespecial 313, 3) := dk_183 1 57 (dk_at dksX1_lease_2 9 rfl rfl)
theorem dX1_lease_56 : decode cX1_lease 56 = .ok (.invokevirtual 224, 3) := dk_182 0 224 (dk_at dksX1_lease_2 12 rfl rfl)
theorem dX1_lease_59 : decode cX1_lease 59 = .ok (.ireturn, 1) := dk_172 (dk_at dksX1_lease_2 15 rfl rfl)
abbrev cX1_isTerm : ByteArray := prog_1_method_8_code
def yX1_isTerm : MethodName := ⟨RX1, "isTerm", "(I)Z"⟩
def dkwX1_isTerm_0 : List UInt8 := [26, 4, 16, 12, 184, 0, 3, 172]
abbrev dktX1_isTerm_0 : List UInt8 := dkwX1_isTerm_0 ++ []
theorem dksX1_isTerm_0 : cX1_isTerm.data.toList.drop 0 = dktX1_isTerm_0 := by decide +kernel
theorem dX1_isTerm_0 : decode cX1_isTerm 0 = .ok (.iload_n 0, 1) := dk_26 (dk_at dksX1_isTerm_0 0 rfl rfl)
theorem dX1_isTerm_1 : decode cX1_isTerm 1 = .ok (.iconst 1, 1) := dk_4 (dk_at dksX1_isTerm_0 1 rfl rfl)
theorem dX1_isTerm_2 : decode cX1_isTerm 2 = .ok (.bipush 12, 2) := dk_16 12 (dk_at dksX1_isTerm_0 2 rfl rfl)
theorem dX1_isTerm_4 : decode cX1_isTerm 4 = .ok (.invokestatic 3, 3) := dk_184 0 3 (dk_at dksX1_isTerm_0 4 rfl rfl)
theorem dX1_isTerm_7 : decode cX1_isTerm 7 = .ok (.ireturn, 1) := dk_172 (dk_at dksX1_isTerm_0 7 rfl rfl)
abbrev cX1_endLease : ByteArray := prog_1_method_57_code
def yX1_endLease : MethodName := ⟨RX1, "endLease", "(I)I"⟩
def dkwX1_endLease_1 : List UInt8 := [183, 1, 57, 182, 0, 224, 172]
abbrev dktX1_endLease_1 : List UInt8 := dkwX1_endLease_1 ++ []
def dkwX1_endLease_0 : List UInt8 := [42, 180, 0, 120, 180, 0, 168, 27, 182, 0, 172, 184, 0, 176, 42, 187, 1, 55, 89, 16, 101, 2, 27, 2]
abbrev dktX1_endLease_0 : List UInt8 := dkwX1_endLease_0 ++ dktX1_endLease_1
theorem dksX1_endLease_0 : cX1_endLease.data.toList.drop 0 = dktX1_endLease_0 := by decide +kernel
theorem dksX1_endLease_1 : cX1_endLease.data.toList.drop 24 = dktX1_endLease_1 := dk_seg dksX1_endLease_0 24 rfl rfl
theorem dX1_endLease_0 : decode cX1_endLease 0 = .ok (.aload_n 0, 1) := dk_42 (dk_at dksX1_endLease_0 0 rfl rfl)
theorem dX1_endLease_1 : decode cX1_endLease 1 = .ok (.getfield 120, 3) := dk_180 0 120 (dk_at dksX1_endLease_0 1 rfl rfl)
theorem dX1_endLease_4 : decode cX1_endLease 4 = .ok (.getfield 168, 3) := dk_180 0 168 (dk_at dksX1_endLease_0 4 rfl rfl)
theorem dX1_endLease_7 : decode cX1_endLease 7 = .ok (.iload_n 1, 1) := dk_27 (dk_at dksX1_endLease_0 7 rfl rfl)
theorem dX1_endLease_8 : decode cX1_endLease 8 = .ok (.invokevirtual 172, 3) := dk_182 0 172 (dk_at dksX1_endLease_0 8 rfl rfl)
theorem dX1_endLease_11 : decode cX1_endLease 11 = .ok (.invokestatic 176, 3) := dk_184 0 176 (dk_at dksX1_endLease_0 11 rfl rfl)
theorem dX1_endLease_14 : decode cX1_endLease 14 = .ok (.aload_n 0, 1) := dk_42 (dk_at dksX1_endLease_0 14 rfl rfl)
theorem dX1_endLease_15 : decode cX1_endLease 15 = .ok (.new 311, 3) := dk_187 1 55 (dk_at dksX1_endLease_0 15 rfl rfl)
theorem dX1_endLease_18 : decode cX1_endLease 18 = .ok (.dup, 1) := dk_89 (dk_at dksX1_endLease_0 18 rfl rfl)
theorem dX1_endLease_19 : decode cX1_endLease 19 = .ok (.bipush 101, 2) := dk_16 101 (dk_at dksX1_endLease_0 19 rfl rfl)
theorem dX1_endLease_21 : decode cX1_endLease 21 = .ok (.iconst (-1), 1) := dk_2 (dk_at dksX1_endLease_0 21 rfl rfl)
theorem dX1_endLease_22 : decode cX1_endLease 22 = .ok (.iload_n 1, 1) := dk_27 (dk_at dksX1_endLease_0 22 rfl rfl)
theorem dX1_endLease_23 : decode cX1_endLease 23 = .ok (.iconst (-1), 1) := dk_2 (dk_at dksX1_endLease_0 23 rfl rfl)
theorem dX1_endLease_24 : decode cX1_endLease 24 = .ok (.invokespecial 313, 3) := dk_183 1 57 (dk_at dksX1_endLease_1 0 rfl rfl)
theorem dX1_endLease_27 : decode cX1_endLease 27 = .ok (.invokevirtual 224, 3) := dk_182 0 224 (dk_at dksX1_endLease_1 3 rfl rfl)
theorem dX1_endLease_30 : decode cX1_endLease 30 = .ok (.ireturn, 1) := dk_172 (dk_at dksX1_endLease_1 6 rfl rfl)
abbrev cX1_renew : ByteArray := prog_1_method_58_code
def yX1_renew : MethodName := ⟨RX1, "renew", "(II)I"⟩
def dkwX1_renew_1 : List UInt8 := [187, 1, 55, 89, 16, 114, 2, 27, 28, 183, 1, 57, 182, 0, 224, 172]
abbrev dktX1_renew_1 : List UInt8 := dkwX1_renew_1 ++ []
def dkwX1_renew_0 : List UInt8 := [42, 180, 0, 120, 180, 0, 168, 27, 182, 0, 172, 184, 0, 176, 28, 184, 1, 52, 184, 0, 216, 42]
abbrev dktX1_renew_0 : List UInt8 := dkwX1_renew_0 ++ dktX1_renew_1
theorem dksX1_renew_0 : cX1_renew.data.toList.drop 0 = dktX1_renew_0 := by decide +kernel
theorem dksX1_renew_1 : cX1_renew.data.toList.drop 22 = dktX1_renew_1 := dk_seg dksX1_renew_0 22 rfl rfl
theorem dX1_renew_0 : decode cX1_renew 0 = .ok (.aload_n 0, 1) := dk_42 (dk_at dksX1_renew_0 0 rfl rfl)
theorem dX1_renew_1 : decode cX1_renew 1 = .ok (.getfield 120, 3) := dk_180 0 120 (dk_at dksX1_renew_0 1 rfl rfl)
theorem dX1_renew_4 : decode cX1_renew 4 = .ok (.getfield 168, 3) := dk_180 0 168 (dk_at dksX1_renew_0 4 rfl rfl)
theorem dX1_renew_7 : decode cX1_renew 7 = .ok (.iload_n 1, 1) := dk_27 (dk_at dksX1_renew_0 7 rfl rfl)
theorem dX1_renew_8 : decode cX1_renew 8 = .ok (.invokevirtual 172, 3) := dk_182 0 172 (dk_at dksX1_renew_0 8 rfl rfl)
theorem dX1_renew_11 : decode cX1_renew 11 = .ok (.invokestatic 176, 3) := dk_184 0 176 (dk_at dksX1_renew_0 11 rfl rfl)
theorem dX1_renew_14 : decode cX1_renew 14 = .ok (.iload_n 2, 1) := dk_28 (dk_at dksX1_renew_0 14 rfl rfl)
theorem dX1_renew_15 : decode cX1_renew 15 = .ok (.invokestatic 308, 3) := dk_184 1 52 (dk_at dksX1_renew_0 15 rfl rfl)
theorem dX1_renew_18 : decode cX1_renew 18 = .ok (.invokestatic 216, 3) := dk_184 0 216 (dk_at dksX1_renew_0 18 rfl rfl)
theorem dX1_renew_21 : decode cX1_renew 21 = .ok (.aload_n 0, 1) := dk_42 (dk_at dksX1_renew_0 21 rfl rfl)
theorem dX1_renew_22 : decode cX1_renew 22 = .ok (.new 311, 3) := dk_187 1 55 (dk_at dksX1_renew_1 0 rfl rfl)
theorem dX1_renew_25 : decode cX1_renew 25 = .ok (.dup, 1) := dk_89 (dk_at dksX1_renew_1 3 rfl rfl)
theorem dX1_renew_26 : decode cX1_renew 26 = .ok (.bipush 114, 2) := dk_16 114 (dk_at dksX1_renew_1 4 rfl rfl)
theorem dX1_renew_28 : decode cX1_renew 28 = .ok (.iconst (-1), 1) := dk_2 (dk_at dksX1_renew_1 6 rfl rfl)
theorem dX1_renew_29 : decode cX1_renew 29 = .ok (.iload_n 1, 1) := dk_27 (dk_at dksX1_renew_1 7 rfl rfl)
theorem dX1_renew_30 : decode cX1_renew 30 = .ok (.iload_n 2, 1) := dk_28 (dk_at dksX1_renew_1 8 rfl rfl)
theorem dX1_renew_31 : decode cX1_renew 31 = .ok (.invokespecial 313, 3) := dk_183 1 57 (dk_at dksX1_renew_1 9 rfl rfl)
theorem dX1_renew_34 : decode cX1_renew 34 = .ok (.invokevirtual 224, 3) := dk_182 0 224 (dk_at dksX1_renew_1 12 rfl rfl)
theorem dX1_renew_37 : decode cX1_renew 37 = .ok (.ireturn, 1) := dk_172 (dk_at dksX1_renew_1 15 rfl rfl)
abbrev cX1_isLet : ByteArray := prog_1_method_59_code
def yX1_isLet : MethodName := ⟨RX1, "isLet", "(I)Z"⟩
def dkwX1_isLet_0 : List UInt8 := [42, 27, 182, 0, 190, 182, 0, 194, 172]
abbrev dktX1_isLet_0 : List UInt8 := dkwX1_isLet_0 ++ []
theorem dksX1_isLet_0 : cX1_isLet.data.toList.drop 0 = dktX1_isLet_0 := by decide +kernel
theorem dX1_isLet_0 : decode cX1_isLet 0 = .ok (.aload_n 0, 1) := dk_42 (dk_at dksX1_isLet_0 0 rfl rfl)
theorem dX1_isLet_1 : decode cX1_isLet 1 = .ok (.iload_n 1, 1) := dk_27 (dk_at dksX1_isLet_0 1 rfl rfl)
theorem dX1_isLet_2 : decode cX1_isLet 2 = .ok (.invokevirtual 190, 3) := dk_182 0 190 (dk_at dksX1_isLet_0 2 rfl rfl)
theorem dX1_isLet_5 : decode cX1_isLet 5 = .ok (.invokevirtual 194, 3) := dk_182 0 194 (dk_at dksX1_isLet_0 5 rfl rfl)
theorem dX1_isLet_8 : decode cX1_isLet 8 = .ok (.ireturn, 1) := dk_172 (dk_at dksX1_isLet_0 8 rfl rfl)
abbrev cX1_tenantOf : ByteArray := prog_1_method_60_code
def yX1_tenantOf : MethodName := ⟨RX1, "tenantOf", "(I)I"⟩
def dkwX1_tenantOf_0 : List UInt8 := [42, 27, 182, 1, 58, 180, 1, 61, 182, 1, 65, 172]
abbrev dktX1_tenantOf_0 : List UInt8 := dkwX1_tenantOf_0 ++ []
theorem dksX1_tenantOf_0 : cX1_tenantOf.data.toList.drop 0 = dktX1_tenantOf_0 := by decide +kernel
theorem dX1_tenantOf_0 : decode cX1_tenantOf 0 = .ok (.aload_n 0, 1) := dk_42 (dk_at dksX1_tenantOf_0 0 rfl rfl)
theorem dX1_tenantOf_1 : decode cX1_tenantOf 1 = .ok (.iload_n 1, 1) := dk_27 (dk_at dksX1_tenantOf_0 1 rfl rfl)
theorem dX1_tenantOf_2 : decode cX1_tenantOf 2 = .ok (.invokevirtual 314, 3) := dk_182 1 58 (dk_at dksX1_tenantOf_0 2 rfl rfl)
theorem dX1_tenantOf_5 : decode cX1_tenantOf 5 = .ok (.getfield 317, 3) := dk_180 1 61 (dk_at dksX1_tenantOf_0 5 rfl rfl)
theorem dX1_tenantOf_8 : decode cX1_tenantOf 8 = .ok (.invokevirtual 321, 3) := dk_182 1 65 (dk_at dksX1_tenantOf_0 8 rfl rfl)
theorem dX1_tenantOf_11 : decode cX1_tenantOf 11 = .ok (.ireturn, 1) := dk_172 (dk_at dksX1_tenantOf_0 11 rfl rfl)
abbrev cX1_requireLetBench : ByteArray := prog_1_method_26_code
def yX1_requireLetBench : MethodName := ⟨RX1, "requireLetBench", "(I)LBenchBroker$Bench;"⟩
def dkwX1_requireLetBench_0 : List UInt8 := [42, 27, 182, 0, 190, 77, 44, 182, 0, 194, 184, 0, 197, 44, 176]
abbrev dktX1_requireLetBench_0 : List UInt8 := dkwX1_requireLetBench_0 ++ []
theorem dksX1_requireLetBench_0 : cX1_requireLetBench.data.toList.drop 0 = dktX1_requireLetBench_0 := by decide +kernel
theorem dX1_requireLetBench_0 : decode cX1_requireLetBench 0 = .ok (.aload_n 0, 1) := dk_42 (dk_at dksX1_requireLetBench_0 0 rfl rfl)
theorem dX1_requireLetBench_1 : decode cX1_requireLetBench 1 = .ok (.iload_n 1, 1) := dk_27 (dk_at dksX1_requireLetBench_0 1 rfl rfl)
theorem dX1_requireLetBench_2 : decode cX1_requireLetBench 2 = .ok (.invokevirtual 190, 3) := dk_182 0 190 (dk_at dksX1_requireLetBench_0 2 rfl rfl)
theorem dX1_requireLetBench_5 : decode cX1_requireLetBench 5 = .ok (.astore_n 2, 1) := dk_77 (dk_at dksX1_requireLetBench_0 5 rfl rfl)
theorem dX1_requireLetBench_6 : decode cX1_requireLetBench 6 = .ok (.aload_n 2, 1) := dk_44 (dk_at dksX1_requireLetBench_0 6 rfl rfl)
theorem dX1_requireLetBench_7 : decode cX1_requireLetBench 7 = .ok (.invokevirtual 194, 3) := dk_182 0 194 (dk_at dksX1_requireLetBench_0 7 rfl rfl)
theorem dX1_requireLetBench_10 : decode cX1_requireLetBench 10 = .ok (.invokestatic 197, 3) := dk_184 0 197 (dk_at dksX1_requireLetBench_0 10 rfl rfl)
theorem dX1_requireLetBench_13 : decode cX1_requireLetBench 13 = .ok (.aload_n 2, 1) := dk_44 (dk_at dksX1_requireLetBench_0 13 rfl rfl)
theorem dX1_requireLetBench_14 : decode cX1_requireLetBench 14 = .ok (.areturn, 1) := dk_176 (dk_at dksX1_requireLetBench_0 14 rfl rfl)
abbrev cX1_depositOf : ByteArray := prog_1_method_61_code
def yX1_depositOf : MethodName := ⟨RX1, "depositOf", "(I)I"⟩
def dkwX1_depositOf_0 : List UInt8 := [42, 27, 182, 1, 58, 180, 0, 78, 172]
abbrev dktX1_depositOf_0 : List UInt8 := dkwX1_depositOf_0 ++ []
theorem dksX1_depositOf_0 : cX1_depositOf.data.toList.drop 0 = dktX1_depositOf_0 := by decide +kernel
theorem dX1_depositOf_0 : decode cX1_depositOf 0 = .ok (.aload_n 0, 1) := dk_42 (dk_at dksX1_depositOf_0 0 rfl rfl)
theorem dX1_depositOf_1 : decode cX1_depositOf 1 = .ok (.iload_n 1, 1) := dk_27 (dk_at dksX1_depositOf_0 1 rfl rfl)
theorem dX1_depositOf_2 : decode cX1_depositOf 2 = .ok (.invokevirtual 314, 3) := dk_182 1 58 (dk_at dksX1_depositOf_0 2 rfl rfl)
theorem dX1_depositOf_5 : decode cX1_depositOf 5 = .ok (.getfield 78, 3) := dk_180 0 78 (dk_at dksX1_depositOf_0 5 rfl rfl)
theorem dX1_depositOf_8 : decode cX1_depositOf 8 = .ok (.ireturn, 1) := dk_172 (dk_at dksX1_depositOf_0 8 rfl rfl)
abbrev cX1_monthsLeft : ByteArray := prog_1_method_62_code
def yX1_monthsLeft : MethodName := ⟨RX1, "monthsLeft", "(I)I"⟩
def dkwX1_monthsLeft_0 : List UInt8 := [42, 27, 182, 1, 58, 180, 0, 81, 172]
abbrev dktX1_monthsLeft_0 : List UInt8 := dkwX1_monthsLeft_0 ++ []
theorem dksX1_monthsLeft_0 : cX1_monthsLeft.data.toList.drop 0 = dktX1_monthsLeft_0 := by decide +kernel
theorem dX1_monthsLeft_0 : decode cX1_monthsLeft 0 = .ok (.aload_n 0, 1) := dk_42 (dk_at dksX1_monthsLeft_0 0 rfl rfl)
theorem dX1_monthsLeft_1 : decode cX1_monthsLeft 1 = .ok (.iload_n 1, 1) := dk_27 (dk_at dksX1_monthsLeft_0 1 rfl rfl)
theorem dX1_monthsLeft_2 : decode cX1_monthsLeft 2 = .ok (.invokevirtual 314, 3) := dk_182 1 58 (dk_at dksX1_monthsLeft_0 2 rfl rfl)
theorem dX1_monthsLeft_5 : decode cX1_monthsLeft 5 = .ok (.getfield 81, 3) := dk_180 0 81 (dk_at dksX1_monthsLeft_0 5 rfl rfl)
theorem dX1_monthsLeft_8 : decode cX1_monthsLeft 8 = .ok (.ireturn, 1) := dk_172 (dk_at dksX1_monthsLeft_0 8 rfl rfl)
abbrev cX1_defaultMonth : ByteArray := prog_1_method_63_code
def yX1_defaultMonth : MethodName := ⟨RX1, "defaultMonth", "(I)I"⟩
def dkwX1_defaultMonth_0 : List UInt8 := [42, 180, 0, 120, 42, 27, 182, 0, 190, 182, 1, 66, 184, 1, 48, 172]
abbrev dktX1_defaultMonth_0 : List UInt8 := dkwX1_defaultMonth_0 ++ []
theorem dksX1_defaultMonth_0 : cX1_defaultMonth.data.toList.drop 0 = dktX1_defaultMonth_0 := by decide +kernel
theorem dX1_defaultMonth_0 : decode cX1_defaultMonth 0 = .ok (.aload_n 0, 1) := dk_42 (dk_at dksX1_defaultMonth_0 0 rfl rfl)
theorem dX1_defaultMonth_1 : decode cX1_defaultMonth 1 = .ok (.getfield 120, 3) := dk_180 0 120 (dk_at dksX1_defaultMonth_0 1 rfl rfl)
theorem dX1_defaultMonth_4 : decode cX1_defaultMonth 4 = .ok (.aload_n 0, 1) := dk_42 (dk_at dksX1_defaultMonth_0 4 rfl rfl)
theorem dX1_defaultMonth_5 : decode cX1_defaultMonth 5 = .ok (.iload_n 1, 1) := dk_27 (dk_at dksX1_defaultMonth_0 5 rfl rfl)
theorem dX1_defaultMonth_6 : decode cX1_defaultMonth 6 = .ok (.invokevirtual 190, 3) := dk_182 0 190 (dk_at dksX1_defaultMonth_0 6 rfl rfl)
theorem dX1_defaultMonth_9 : decode cX1_defaultMonth 9 = .ok (.invokevirtual 322, 3) := dk_182 1 66 (dk_at dksX1_defaultMonth_0 9 rfl rfl)
theorem dX1_defaultMonth_12 : decode cX1_defaultMonth 12 = .ok (.invokestatic 304, 3) := dk_184 1 48 (dk_at dksX1_defaultMonth_0 12 rfl rfl)
theorem dX1_defaultMonth_15 : decode cX1_defaultMonth 15 = .ok (.ireturn, 1) := dk_172 (dk_at dksX1_defaultMonth_0 15 rfl rfl)
abbrev cX1_passMonths : ByteArray := prog_1_method_64_code
def yX1_passMonths : MethodName := ⟨RX1, "passMonths", "(I)I"⟩
def dkwX1_passMonths_0 : List UInt8 := [27, 184, 1, 52, 184, 0, 216, 42, 187, 0, 237, 89, 16, 112, 2, 27, 183, 0, 239, 182, 0, 224, 172]
abbrev dktX1_passMonths_0 : List UInt8 := dkwX1_passMonths_0 ++ []
theorem dksX1_passMonths_0 : cX1_passMonths.data.toList.drop 0 = dktX1_passMonths_0 := by decide +kernel
theorem dX1_passMonths_0 : decode cX1_passMonths 0 = .ok (.iload_n 1, 1) := dk_27 (dk_at dksX1_passMonths_0 0 rfl rfl)
theorem dX1_passMonths_1 : decode cX1_passMonths 1 = .ok (.invokestatic 308, 3) := dk_184 1 52 (dk_at dksX1_passMonths_0 1 rfl rfl)
theorem dX1_passMonths_4 : decode cX1_passMonths 4 = .ok (.invokestatic 216, 3) := dk_184 0 216 (dk_at dksX1_passMonths_0 4 rfl rfl)
theorem dX1_passMonths_7 : decode cX1_passMonths 7 = .ok (.aload_n 0, 1) := dk_42 (dk_at dksX1_passMonths_0 7 rfl rfl)
theorem dX1_passMonths_8 : decode cX1_passMonths 8 = .ok (.new 237, 3) := dk_187 0 237 (dk_at dksX1_passMonths_0 8 rfl rfl)
theorem dX1_passMonths_11 : decode cX1_passMonths 11 = .ok (.dup, 1) := dk_89 (dk_at dksX1_passMonths_0 11 rfl rfl)
theorem dX1_passMonths_12 : decode cX1_passMonths 12 = .ok (.bipush 112, 2) := dk_16 112 (dk_at dksX1_passMonths_0 12 rfl rfl)
theorem dX1_passMonths_14 : decode cX1_passMonths 14 = .ok (.iconst (-1), 1) := dk_2 (dk_at dksX1_passMonths_0 14 rfl rfl)
theorem dX1_passMonths_15 : decode cX1_passMonths 15 = .ok (.iload_n 1, 1) := dk_27 (dk_at dksX1_passMonths_0 15 rfl rfl)
theorem dX1_passMonths_16 : decode cX1_passMonths 16 = .ok (.invokespecial 239, 3) := dk_183 0 239 (dk_at dksX1_passMonths_0 16 rfl rfl)
theorem dX1_passMonths_19 : decode cX1_passMonths 19 = .ok (.invokevirtual 224, 3) := dk_182 0 224 (dk_at dksX1_passMonths_0 19 rfl rfl)
theorem dX1_passMonths_22 : decode cX1_passMonths 22 = .ok (.ireturn, 1) := dk_172 (dk_at dksX1_passMonths_0 22 rfl rfl)
abbrev cX1_incomeWithin : ByteArray := prog_1_method_66_code
def yX1_incomeWithin : MethodName := ⟨RX1, "incomeWithin", "(I)I"⟩
def dkwX1_incomeWithin_0 : List UInt8 := [27, 184, 1, 52, 184, 0, 216, 42, 180, 0, 120, 27, 182, 1, 72, 172]
abbrev dktX1_incomeWithin_0 : List UInt8 := dkwX1_incomeWithin_0 ++ []
theorem dksX1_incomeWithin_0 : cX1_incomeWithin.data.toList.drop 0 = dktX1_incomeWithin_0 := by decide +kernel
theorem dX1_incomeWithin_0 : decode cX1_incomeWithin 0 = .ok (.iload_n 1, 1) := dk_27 (dk_at dksX1_incomeWithin_0 0 rfl rfl)
theorem dX1_incomeWithin_1 : decode cX1_incomeWithin 1 = .ok (.invokestatic 308, 3) := dk_184 1 52 (dk_at dksX1_incomeWithin_0 1 rfl rfl)
theorem dX1_incomeWithin_4 : decode cX1_incomeWithin 4 = .ok (.invokestatic 216, 3) := dk_184 0 216 (dk_at dksX1_incomeWithin_0 4 rfl rfl)
theorem dX1_incomeWithin_7 : decode cX1_incomeWithin 7 = .ok (.aload_n 0, 1) := dk_42 (dk_at dksX1_incomeWithin_0 7 rfl rfl)
theorem dX1_incomeWithin_8 : decode cX1_incomeWithin 8 = .ok (.getfield 120, 3) := dk_180 0 120 (dk_at dksX1_incomeWithin_0 8 rfl rfl)
theorem dX1_incomeWithin_11 : decode cX1_incomeWithin 11 = .ok (.iload_n 1, 1) := dk_27 (dk_at dksX1_incomeWithin_0 11 rfl rfl)
theorem dX1_incomeWithin_12 : decode cX1_incomeWithin 12 = .ok (.invokevirtual 328, 3) := dk_182 1 72 (dk_at dksX1_incomeWithin_0 12 rfl rfl)
theorem dX1_incomeWithin_15 : decode cX1_incomeWithin 15 = .ok (.ireturn, 1) := dk_172 (dk_at dksX1_incomeWithin_0 15 rfl rfl)
abbrev cX1_incomeByLeases : ByteArray := prog_1_method_67_code
def yX1_incomeByLeases : MethodName := ⟨RX1, "incomeByLeases", "(I)I"⟩
def dkwX1_incomeByLeases_0 : List UInt8 := [27, 184, 1, 52, 184, 0, 216, 42, 180, 0, 120, 27, 182, 1, 75, 172]
abbrev dktX1_incomeByLeases_0 : List UInt8 := dkwX1_incomeByLeases_0 ++ []
theorem dksX1_incomeByLeases_0 : cX1_incomeByLeases.data.toList.drop 0 = dktX1_incomeByLeases_0 := by decide +kernel
theorem dX1_incomeByLeases_0 : decode cX1_incomeByLeases 0 = .ok (.iload_n 1, 1) := dk_27 (dk_at dksX1_incomeByLeases_0 0 rfl rfl)
theorem dX1_incomeByLeases_1 : decode cX1_incomeByLeases 1 = .ok (.invokestatic 308, 3) := dk_184 1 52 (dk_at dksX1_incomeByLeases_0 1 rfl rfl)
theorem dX1_incomeByLeases_4 : decode cX1_incomeByLeases 4 = .ok (.invokestatic 216, 3) := dk_184 0 216 (dk_at dksX1_incomeByLeases_0 4 rfl rfl)
theorem dX1_incomeByLeases_7 : decode cX1_incomeByLeases 7 = .ok (.aload_n 0, 1) := dk_42 (dk_at dksX1_incomeByLeases_0 7 rfl rfl)
theorem dX1_incomeByLeases_8 : decode cX1_incomeByLeases 8 = .ok (.getfield 120, 3) := dk_180 0 120 (dk_at dksX1_incomeByLeases_0 8 rfl rfl)
theorem dX1_incomeByLeases_11 : decode cX1_incomeByLeases 11 = .ok (.iload_n 1, 1) := dk_27 (dk_at dksX1_incomeByLeases_0 11 rfl rfl)
theorem dX1_incomeByLeases_12 : decode cX1_incomeByLeases 12 = .ok (.invokevirtual 331, 3) := dk_182 1 75 (dk_at dksX1_incomeByLeases_0 12 rfl rfl)
theorem dX1_incomeByLeases_15 : decode cX1_incomeByLeases 15 = .ok (.ireturn, 1) := dk_172 (dk_at dksX1_incomeByLeases_0 15 rfl rfl)
abbrev cX1_benchByRent : ByteArray := prog_1_method_75_code
def yX1_benchByRent : MethodName := ⟨RX1, "benchByRent", "(I)I"⟩
def dkwX1_benchByRent_0 : List UInt8 := [42, 180, 0, 120, 27, 182, 1, 99, 184, 1, 48, 172]
abbrev dktX1_benchByRent_0 : List UInt8 := dkwX1_benchByRent_0 ++ []
theorem dksX1_benchByRent_0 : cX1_benchByRent.data.toList.drop 0 = dktX1_benchByRent_0 := by decide +kernel
theorem dX1_benchByRent_0 : decode cX1_benchByRent 0 = .ok (.aload_n 0, 1) := dk_42 (dk_at dksX1_benchByRent_0 0 rfl rfl)
theorem dX1_benchByRent_1 : decode cX1_benchByRent 1 = .ok (.getfield 120, 3) := dk_180 0 120 (dk_at dksX1_benchByRent_0 1 rfl rfl)
theorem dX1_benchByRent_4 : decode cX1_benchByRent 4 = .ok (.iload_n 1, 1) := dk_27 (dk_at dksX1_benchByRent_0 4 rfl rfl)
theorem dX1_benchByRent_5 : decode cX1_benchByRent 5 = .ok (.invokevirtual 355, 3) := dk_182 1 99 (dk_at dksX1_benchByRent_0 5 rfl rfl)
theorem dX1_benchByRent_8 : decode cX1_benchByRent 8 = .ok (.invokestatic 304, 3) := dk_184 1 48 (dk_at dksX1_benchByRent_0 8 rfl rfl)
theorem dX1_benchByRent_11 : decode cX1_benchByRent 11 = .ok (.ireturn, 1) := dk_172 (dk_at dksX1_benchByRent_0 11 rfl rfl)
abbrev cX1_inOrder : ByteArray := prog_1_method_16_code
def yX1_inOrder : MethodName := ⟨RX1, "inOrder", "(LBenchBroker$Register;LBenchBroker$Order;I)I"⟩
def dkwX1_inOrder_3 : List UInt8 := [25, 4, 182, 0, 50, 172, 132, 3, 1, 167, 255, 183, 2, 172]
abbrev dktX1_inOrder_3 : List UInt8 := dkwX1_inOrder_3 ++ []
def dkwX1_inOrder_2 : List UInt8 := [185, 0, 40, 3, 0, 184, 0, 46, 96, 54, 5, 132, 6, 1, 167, 255, 222, 21, 5, 28, 160, 0, 9]
abbrev dktX1_inOrder_2 : List UInt8 := dkwX1_inOrder_2 ++ dktX1_inOrder_3
def dkwX1_inOrder_1 : List UInt8 := [21, 6, 42, 182, 0, 30, 162, 0, 31, 21, 5, 43, 42, 21, 6, 182, 0, 36, 25, 4]
abbrev dktX1_inOrder_1 : List UInt8 := dkwX1_inOrder_1 ++ dktX1_inOrder_2
def dkwX1_inOrder_0 : List UInt8 := [3, 62, 29, 42, 182, 0, 30, 162, 0, 71, 42, 29, 182, 0, 36, 58, 4, 3, 54, 5, 3, 54, 6]
abbrev dktX1_inOrder_0 : List UInt8 := dkwX1_inOrder_0 ++ dktX1_inOrder_1
theorem dksX1_inOrder_0 : cX1_inOrder.data.toList.drop 0 = dktX1_inOrder_0 := by decide +kernel
theorem dksX1_inOrder_1 : cX1_inOrder.data.toList.drop 23 = dktX1_inOrder_1 := dk_seg dksX1_inOrder_0 23 rfl rfl
theorem dksX1_inOrder_2 : cX1_inOrder.data.toList.drop 43 = dktX1_inOrder_2 := dk_seg dksX1_inOrder_1 20 rfl rfl
theorem dksX1_inOrder_3 : cX1_inOrder.data.toList.drop 66 = dktX1_inOrder_3 := dk_seg dksX1_inOrder_2 23 rfl rfl
theorem dX1_inOrder_0 : decode cX1_inOrder 0 = .ok (.iconst 0, 1) := dk_3 (dk_at dksX1_inOrder_0 0 rfl rfl)
theorem dX1_inOrder_1 : decode cX1_inOrder 1 = .ok (.istore_n 3, 1) := dk_62 (dk_at dksX1_inOrder_0 1 rfl rfl)
theorem dX1_inOrder_2 : decode cX1_inOrder 2 = .ok (.iload_n 3, 1) := dk_29 (dk_at dksX1_inOrder_0 2 rfl rfl)
theorem dX1_inOrder_3 : decode cX1_inOrder 3 = .ok (.aload_n 0, 1) := dk_42 (dk_at dksX1_inOrder_0 3 rfl rfl)
theorem dX1_inOrder_4 : decode cX1_inOrder 4 = .ok (.invokevirtual 30, 3) := dk_182 0 30 (dk_at dksX1_inOrder_0 4 rfl rfl)
theorem dX1_inOrder_7 : decode cX1_inOrder 7 = .ok (.if_icmp .ge 71, 3) := dk_162 0 71 (dk_at dksX1_inOrder_0 7 rfl rfl)
theorem dX1_inOrder_10 : decode cX1_inOrder 10 = .ok (.aload_n 0, 1) := dk_42 (dk_at dksX1_inOrder_0 10 rfl rfl)
theorem dX1_inOrder_11 : decode cX1_inOrder 11 = .ok (.iload_n 3, 1) := dk_29 (dk_at dksX1_inOrder_0 11 rfl rfl)
theorem dX1_inOrder_12 : decode cX1_inOrder 12 = .ok (.invokevirtual 36, 3) := dk_182 0 36 (dk_at dksX1_inOrder_0 12 rfl rfl)
theorem dX1_inOrder_15 : decode cX1_inOrder 15 = .ok (.astore 4, 2) := dk_58 4 (dk_at dksX1_inOrder_0 15 rfl rfl)
theorem dX1_inOrder_17 : decode cX1_inOrder 17 = .ok (.iconst 0, 1) := dk_3 (dk_at dksX1_inOrder_0 17 rfl rfl)
theorem dX1_inOrder_18 : decode cX1_inOrder 18 = .ok (.istore 5, 2) := dk_54 5 (dk_at dksX1_inOrder_0 18 rfl rfl)
theorem dX1_inOrder_20 : decode cX1_inOrder 20 = .ok (.iconst 0, 1) := dk_3 (dk_at dksX1_inOrder_0 20 rfl rfl)
theorem dX1_inOrder_21 : decode cX1_inOrder 21 = .ok (.istore 6, 2) := dk_54 6 (dk_at dksX1_inOrder_0 21 rfl rfl)
theorem dX1_inOrder_23 : decode cX1_inOrder 23 = .ok (.iload 6, 2) := dk_21 6 (dk_at dksX1_inOrder_1 0 rfl rfl)
theorem dX1_inOrder_25 : decode cX1_inOrder 25 = .ok (.aload_n 0, 1) := dk_42 (dk_at dksX1_inOrder_1 2 rfl rfl)
theorem dX1_inOrder_26 : decode cX1_inOrder 26 = .ok (.invokevirtual 30, 3) := dk_182 0 30 (dk_at dksX1_inOrder_1 3 rfl rfl)
theorem dX1_inOrder_29 : decode cX1_inOrder 29 = .ok (.if_icmp .ge 31, 3) := dk_162 0 31 (dk_at dksX1_inOrder_1 6 rfl rfl)
theorem dX1_inOrder_32 : decode cX1_inOrder 32 = .ok (.iload 5, 2) := dk_21 5 (dk_at dksX1_inOrder_1 9 rfl rfl)
theorem dX1_inOrder_34 : decode cX1_inOrder 34 = .ok (.aload_n 1, 1) := dk_43 (dk_at dksX1_inOrder_1 11 rfl rfl)
theorem dX1_inOrder_35 : decode cX1_inOrder 35 = .ok (.aload_n 0, 1) := dk_42 (dk_at dksX1_inOrder_1 12 rfl rfl)
theorem dX1_inOrder_36 : decode cX1_inOrder 36 = .ok (.iload 6, 2) := dk_21 6 (dk_at dksX1_inOrder_1 13 rfl rfl)
theorem dX1_inOrder_38 : decode cX1_inOrder 38 = .ok (.invokevirtual 36, 3) := dk_182 0 36 (dk_at dksX1_inOrder_1 15 rfl rfl)
theorem dX1_inOrder_41 : decode cX1_inOrder 41 = .ok (.aload 4, 2) := dk_25 4 (dk_at dksX1_inOrder_1 18 rfl rfl)
theorem dX1_inOrder_43 : decode cX1_inOrder 43 = .ok (.invokeinterface 40 3, 5) := by decide +kernel
theorem dX1_inOrder_48 : decode cX1_inOrder 48 = .ok (.invokestatic 46, 3) := dk_184 0 46 (dk_at dksX1_inOrder_2 5 rfl rfl)
theorem dX1_inOrder_51 : decode cX1_inOrder 51 = .ok (.iadd, 1) := dk_96 (dk_at dksX1_inOrder_2 8 rfl rfl)
theorem dX1_inOrder_52 : decode cX1_inOrder 52 = .ok (.istore 5, 2) := dk_54 5 (dk_at dksX1_inOrder_2 9 rfl rfl)
theorem dX1_inOrder_54 : decode cX1_inOrder 54 = .ok (.iinc 6 1, 3) := dk_132 6 1 (dk_at dksX1_inOrder_2 11 rfl rfl)
theorem dX1_inOrder_57 : decode cX1_inOrder 57 = .ok (.goto (-34), 3) := dk_167 255 222 (dk_at dksX1_inOrder_2 14 rfl rfl)
theorem dX1_inOrder_60 : decode cX1_inOrder 60 = .ok (.iload 5, 2) := dk_21 5 (dk_at dksX1_inOrder_2 17 rfl rfl)
theorem dX1_inOrder_62 : decode cX1_inOrder 62 = .ok (.iload_n 2, 1) := dk_28 (dk_at dksX1_inOrder_2 19 rfl rfl)
theorem dX1_inOrder_63 : decode cX1_inOrder 63 = .ok (.if_icmp .ne 9, 3) := dk_160 0 9 (dk_at dksX1_inOrder_2 20 rfl rfl)
theorem dX1_inOrder_66 : decode cX1_inOrder 66 = .ok (.aload 4, 2) := dk_25 4 (dk_at dksX1_inOrder_3 0 rfl rfl)
theorem dX1_inOrder_68 : decode cX1_inOrder 68 = .ok (.invokevirtual 50, 3) := dk_182 0 50 (dk_at dksX1_inOrder_3 2 rfl rfl)
theorem dX1_inOrder_71 : decode cX1_inOrder 71 = .ok (.ireturn, 1) := dk_172 (dk_at dksX1_inOrder_3 5 rfl rfl)
theorem dX1_inOrder_72 : decode cX1_inOrder 72 = .ok (.iinc 3 1, 3) := dk_132 3 1 (dk_at dksX1_inOrder_3 6 rfl rfl)
theorem dX1_inOrder_75 : decode cX1_inOrder 75 = .ok (.goto (-73), 3) := dk_167 255 183 (dk_at dksX1_inOrder_3 9 rfl rfl)
theorem dX1_inOrder_78 : decode cX1_inOrder 78 = .ok (.iconst (-1), 1) := dk_2 (dk_at dksX1_inOrder_3 12 rfl rfl)
theorem dX1_inOrder_79 : decode cX1_inOrder 79 = .ok (.ireturn, 1) := dk_172 (dk_at dksX1_inOrder_3 13 rfl rfl)
abbrev cX1_tenantByCoins : ByteArray := prog_1_method_76_code
def yX1_tenantByCoins : MethodName := ⟨RX1, "tenantByCoins", "(I)I"⟩
def dkwX1_tenantByCoins_0 : List UInt8 := [42, 180, 0, 120, 27, 182, 1, 102, 184, 1, 48, 172]
abbrev dktX1_tenantByCoins_0 : List UInt8 := dkwX1_tenantByCoins_0 ++ []
theorem dksX1_tenantByCoins_0 : cX1_tenantByCoins.data.toList.drop 0 = dktX1_tenantByCoins_0 := by decide +kernel
theorem dX1_tenantByCoins_0 : decode cX1_tenantByCoins 0 = .ok (.aload_n 0, 1) := dk_42 (dk_at dksX1_tenantByCoins_0 0 rfl rfl)
theorem dX1_tenantByCoins_1 : decode cX1_tenantByCoins 1 = .ok (.getfield 120, 3) := dk_180 0 120 (dk_at dksX1_tenantByCoins_0 1 rfl rfl)
theorem dX1_tenantByCoins_4 : decode cX1_tenantByCoins 4 = .ok (.iload_n 1, 1) := dk_27 (dk_at dksX1_tenantByCoins_0 4 rfl rfl)
theorem dX1_tenantByCoins_5 : decode cX1_tenantByCoins 5 = .ok (.invokevirtual 358, 3) := dk_182 1 102 (dk_at dksX1_tenantByCoins_0 5 rfl rfl)
theorem dX1_tenantByCoins_8 : decode cX1_tenantByCoins 8 = .ok (.invokestatic 304, 3) := dk_184 1 48 (dk_at dksX1_tenantByCoins_0 8 rfl rfl)
theorem dX1_tenantByCoins_11 : decode cX1_tenantByCoins 11 = .ok (.ireturn, 1) := dk_172 (dk_at dksX1_tenantByCoins_0 11 rfl rfl)
abbrev cX1_meanRent : ByteArray := prog_1_method_77_code
def yX1_meanRent : MethodName := ⟨RX1, "meanRent", "()D"⟩
def dkwX1_meanRent_1 : List UInt8 := [182, 1, 105, 135, 111, 175]
abbrev dktX1_meanRent_1 : List UInt8 := dkwX1_meanRent_1 ++ []
def dkwX1_meanRent_0 : List UInt8 := [42, 182, 1, 105, 158, 0, 7, 4, 167, 0, 4, 3, 184, 1, 108, 42, 180, 0, 120, 182, 1, 111, 135, 42]
abbrev dktX1_meanRent_0 : List UInt8 := dkwX1_meanRent_0 ++ dktX1_meanRent_1
theorem dksX1_meanRent_0 : cX1_meanRent.data.toList.drop 0 = dktX1_meanRent_0 := by decide +kernel
theorem dksX1_meanRent_1 : cX1_meanRent.data.toList.drop 24 = dktX1_meanRent_1 := dk_seg dksX1_meanRent_0 24 rfl rfl
theorem dX1_meanRent_0 : decode cX1_meanRent 0 = .ok (.aload_n 0, 1) := dk_42 (dk_at dksX1_meanRent_0 0 rfl rfl)
theorem dX1_meanRent_1 : decode cX1_meanRent 1 = .ok (.invokevirtual 361, 3) := dk_182 1 105 (dk_at dksX1_meanRent_0 1 rfl rfl)
theorem dX1_meanRent_4 : decode cX1_meanRent 4 = .ok (.ifCond .le 7, 3) := dk_158 0 7 (dk_at dksX1_meanRent_0 4 rfl rfl)
theorem dX1_meanRent_7 : decode cX1_meanRent 7 = .ok (.iconst 1, 1) := dk_4 (dk_at dksX1_meanRent_0 7 rfl rfl)
theorem dX1_meanRent_8 : decode cX1_meanRent 8 = .ok (.goto 4, 3) := dk_167 0 4 (dk_at dksX1_meanRent_0 8 rfl rfl)
theorem dX1_meanRent_11 : decode cX1_meanRent 11 = .ok (.iconst 0, 1) := dk_3 (dk_at dksX1_meanRent_0 11 rfl rfl)
theorem dX1_meanRent_12 : decode cX1_meanRent 12 = .ok (.invokestatic 364, 3) := dk_184 1 108 (dk_at dksX1_meanRent_0 12 rfl rfl)
theorem dX1_meanRent_15 : decode cX1_meanRent 15 = .ok (.aload_n 0, 1) := dk_42 (dk_at dksX1_meanRent_0 15 rfl rfl)
theorem dX1_meanRent_16 : decode cX1_meanRent 16 = .ok (.getfield 120, 3) := dk_180 0 120 (dk_at dksX1_meanRent_0 16 rfl rfl)
theorem dX1_meanRent_19 : decode cX1_meanRent 19 = .ok (.invokevirtual 367, 3) := dk_182 1 111 (dk_at dksX1_meanRent_0 19 rfl rfl)
theorem dX1_meanRent_22 : decode cX1_meanRent 22 = .ok (.i2d, 1) := dk_135 (dk_at dksX1_meanRent_0 22 rfl rfl)
theorem dX1_meanRent_23 : decode cX1_meanRent 23 = .ok (.aload_n 0, 1) := dk_42 (dk_at dksX1_meanRent_0 23 rfl rfl)
theorem dX1_meanRent_24 : decode cX1_meanRent 24 = .ok (.invokevirtual 361, 3) := dk_182 1 105 (dk_at dksX1_meanRent_1 0 rfl rfl)
theorem dX1_meanRent_27 : decode cX1_meanRent 27 = .ok (.i2d, 1) := dk_135 (dk_at dksX1_meanRent_1 3 rfl rfl)
theorem dX1_meanRent_28 : decode cX1_meanRent 28 = .ok (.ddiv, 1) := dk_111 (dk_at dksX1_meanRent_1 4 rfl rfl)
theorem dX1_meanRent_29 : decode cX1_meanRent 29 = .ok (.dreturn, 1) := dk_175 (dk_at dksX1_meanRent_1 5 rfl rfl)
abbrev cX1_requireCount : ByteArray := prog_1_method_14_code
def yX1_requireCount : MethodName := ⟨RX1, "requireCount", "(Z)V"⟩
def dkwX1_requireCount_0 : List UInt8 := [26, 154, 0, 11, 187, 0, 22, 89, 183, 0, 24, 191, 177]
abbrev dktX1_requireCount_0 : List UInt8 := dkwX1_requireCount_0 ++ []
theorem dksX1_requireCount_0 : cX1_requireCount.data.toList.drop 0 = dktX1_requireCount_0 := by decide +kernel
theorem dX1_requireCount_0 : decode cX1_requireCount 0 = .ok (.iload_n 0, 1) := dk_26 (dk_at dksX1_requireCount_0 0 rfl rfl)
theorem dX1_requireCount_1 : decode cX1_requireCount 1 = .ok (.ifCond .ne 11, 3) := dk_154 0 11 (dk_at dksX1_requireCount_0 1 rfl rfl)
theorem dX1_requireCount_4 : decode cX1_requireCount 4 = .ok (.new 22, 3) := dk_187 0 22 (dk_at dksX1_requireCount_0 4 rfl rfl)
theorem dX1_requireCount_7 : decode cX1_requireCount 7 = .ok (.dup, 1) := dk_89 (dk_at dksX1_requireCount_0 7 rfl rfl)
theorem dX1_requireCount_8 : decode cX1_requireCount 8 = .ok (.invokespecial 24, 3) := dk_183 0 24 (dk_at dksX1_requireCount_0 8 rfl rfl)
theorem dX1_requireCount_11 : decode cX1_requireCount 11 = .ok (.athrow, 1) := dk_191 (dk_at dksX1_requireCount_0 11 rfl rfl)
theorem dX1_requireCount_12 : decode cX1_requireCount 12 = .ok (.return_, 1) := dk_177 (dk_at dksX1_requireCount_0 12 rfl rfl)
abbrev cX1_letShare : ByteArray := prog_1_method_78_code
def yX1_letShare : MethodName := ⟨RX1, "letShare", "()F"⟩
def dkwX1_letShare_1 : List UInt8 := [182, 1, 105, 134, 110, 174]
abbrev dktX1_letShare_1 : List UInt8 := dkwX1_letShare_1 ++ []
def dkwX1_letShare_0 : List UInt8 := [42, 182, 1, 105, 158, 0, 7, 4, 167, 0, 4, 3, 184, 1, 108, 42, 180, 0, 120, 182, 1, 114, 134, 42]
abbrev dktX1_letShare_0 : List UInt8 := dkwX1_letShare_0 ++ dktX1_letShare_1
theorem dksX1_letShare_0 : cX1_letShare.data.toList.drop 0 = dktX1_letShare_0 := by decide +kernel
theorem dksX1_letShare_1 : cX1_letShare.data.toList.drop 24 = dktX1_letShare_1 := dk_seg dksX1_letShare_0 24 rfl rfl
theorem dX1_letShare_0 : decode cX1_letShare 0 = .ok (.aload_n 0, 1) := dk_42 (dk_at dksX1_letShare_0 0 rfl rfl)
theorem dX1_letShare_1 : decode cX1_letShare 1 = .ok (.invokevirtual 361, 3) := dk_182 1 105 (dk_at dksX1_letShare_0 1 rfl rfl)
theorem dX1_letShare_4 : decode cX1_letShare 4 = .ok (.ifCond .le 7, 3) := dk_158 0 7 (dk_at dksX1_letShare_0 4 rfl rfl)
theorem dX1_letShare_7 : decode cX1_letShare 7 = .ok (.iconst 1, 1) := dk_4 (dk_at dksX1_letShare_0 7 rfl rfl)
theorem dX1_letShare_8 : decode cX1_letShare 8 = .ok (.goto 4, 3) := dk_167 0 4 (dk_at dksX1_letShare_0 8 rfl rfl)
theorem dX1_letShare_11 : decode cX1_letShare 11 = .ok (.iconst 0, 1) := dk_3 (dk_at dksX1_letShare_0 11 rfl rfl)
theorem dX1_letShare_12 : decode cX1_letShare 12 = .ok (.invokestatic 364, 3) := dk_184 1 108 (dk_at dksX1_letShare_0 12 rfl rfl)
theorem dX1_letShare_15 : decode cX1_letShare 15 = .ok (.aload_n 0, 1) := dk_42 (dk_at dksX1_letShare_0 15 rfl rfl)
theorem dX1_letShare_16 : decode cX1_letShare 16 = .ok (.getfield 120, 3) := dk_180 0 120 (dk_at dksX1_letShare_0 16 rfl rfl)
theorem dX1_letShare_19 : decode cX1_letShare 19 = .ok (.invokevirtual 370, 3) := dk_182 1 114 (dk_at dksX1_letShare_0 19 rfl rfl)
theorem dX1_letShare_22 : decode cX1_letShare 22 = .ok (.i2f, 1) := dk_134 (dk_at dksX1_letShare_0 22 rfl rfl)
theorem dX1_letShare_23 : decode cX1_letShare 23 = .ok (.aload_n 0, 1) := dk_42 (dk_at dksX1_letShare_0 23 rfl rfl)
theorem dX1_letShare_24 : decode cX1_letShare 24 = .ok (.invokevirtual 361, 3) := dk_182 1 105 (dk_at dksX1_letShare_1 0 rfl rfl)
theorem dX1_letShare_27 : decode cX1_letShare 27 = .ok (.i2f, 1) := dk_134 (dk_at dksX1_letShare_1 3 rfl rfl)
theorem dX1_letShare_28 : decode cX1_letShare 28 = .ok (.fdiv, 1) := dk_110 (dk_at dksX1_letShare_1 4 rfl rfl)
theorem dX1_letShare_29 : decode cX1_letShare 29 = .ok (.freturn, 1) := dk_174 (dk_at dksX1_letShare_1 5 rfl rfl)
abbrev cX1_writeBench : ByteArray := prog_1_method_80_code
def yX1_writeBench : MethodName := ⟨RX1, "writeBench", "(I)I"⟩
def dkwX1_writeBench_4 : List UInt8 := [182, 1, 120, 16, 47, 182, 1, 124, 44, 180, 0, 81, 182, 1, 120, 87, 42, 45, 182, 1, 130, 172]
abbrev dktX1_writeBench_4 : List UInt8 := dkwX1_writeBench_4 ++ []
def dkwX1_writeBench_3 : List UInt8 := [182, 1, 120, 87, 44, 182, 0, 194, 153, 0, 32, 45, 16, 61, 182, 1, 124, 44, 180, 1, 61, 182, 1, 65]
abbrev dktX1_writeBench_3 : List UInt8 := dkwX1_writeBench_3 ++ dktX1_writeBench_4
def dkwX1_writeBench_2 : List UInt8 := [42, 180, 0, 120, 44, 182, 0, 245, 182, 1, 120, 16, 126, 182, 1, 124, 42, 180, 0, 120, 44, 182, 1, 127]
abbrev dktX1_writeBench_2 : List UInt8 := dkwX1_writeBench_2 ++ dktX1_writeBench_3
def dkwX1_writeBench_1 : List UInt8 := [44, 182, 0, 65, 182, 1, 120, 16, 44, 182, 1, 124, 44, 182, 0, 68, 182, 1, 120, 16, 36, 182, 1, 124]
abbrev dktX1_writeBench_1 : List UInt8 := dkwX1_writeBench_1 ++ dktX1_writeBench_2
def dkwX1_writeBench_0 : List UInt8 := [42, 27, 182, 0, 190, 77, 187, 0, 129, 89, 183, 0, 131, 78, 45, 27, 182, 1, 120, 16, 64, 182, 1, 124]
abbrev dktX1_writeBench_0 : List UInt8 := dkwX1_writeBench_0 ++ dktX1_writeBench_1
theorem dksX1_writeBench_0 : cX1_writeBench.data.toList.drop 0 = dktX1_writeBench_0 := by decide +kernel
theorem dksX1_writeBench_1 : cX1_writeBench.data.toList.drop 24 = dktX1_writeBench_1 := dk_seg dksX1_writeBench_0 24 rfl rfl
theorem dksX1_writeBench_2 : cX1_writeBench.data.toList.drop 48 = dktX1_writeBench_2 := dk_seg dksX1_writeBench_1 24 rfl rfl
theorem dksX1_writeBench_3 : cX1_writeBench.data.toList.drop 72 = dktX1_writeBench_3 := dk_seg dksX1_writeBench_2 24 rfl rfl
theorem dksX1_writeBench_4 : cX1_writeBench.data.toList.drop 96 = dktX1_writeBench_4 := dk_seg dksX1_writeBench_3 24 rfl rfl
theorem dX1_writeBench_0 : decode cX1_writeBench 0 = .ok (.aload_n 0, 1) := dk_42 (dk_at dksX1_writeBench_0 0 rfl rfl)
theorem dX1_writeBench_1 : decode cX1_writeBench 1 = .ok (.iload_n 1, 1) := dk_27 (dk_at dksX1_writeBench_0 1 rfl rfl)
theorem dX1_writeBench_2 : decode cX1_writeBench 2 = .ok (.invokevirtual 190, 3) := dk_182 0 190 (dk_at dksX1_writeBench_0 2 rfl rfl)
theorem dX1_writeBench_5 : decode cX1_writeBench 5 = .ok (.astore_n 2, 1) := dk_77 (dk_at dksX1_writeBench_0 5 rfl rfl)
theorem dX1_writeBench_6 : decode cX1_writeBench 6 = .ok (.new 129, 3) := dk_187 0 129 (dk_at dksX1_writeBench_0 6 rfl rfl)
theorem dX1_writeBench_9 : decode cX1_writeBench 9 = .ok (.dup, 1) := dk_89 (dk_at dksX1_writeBench_0 9 rfl rfl)
theorem dX1_writeBench_10 : decode cX1_writeBench 10 = .ok (.invokespecial 131, 3) := dk_183 0 131 (dk_at dksX1_writeBench_0 10 rfl rfl)
theorem dX1_writeBench_13 : decode cX1_writeBench 13 = .ok (.astore_n 3, 1) := dk_78 (dk_at dksX1_writeBench_0 13 rfl rfl)
theorem dX1_writeBench_14 : decode cX1_writeBench 14 = .ok (.aload_n 3, 1) := dk_45 (dk_at dksX1_writeBench_0 14 rfl rfl)
theorem dX1_writeBench_15 : decode cX1_writeBench 15 = .ok (.iload_n 1, 1) := dk_27 (dk_at dksX1_writeBench_0 15 rfl rfl)
theorem dX1_writeBench_16 : decode cX1_writeBench 16 = .ok (.invokevirtual 376, 3) := dk_182 1 120 (dk_at dksX1_writeBench_0 16 rfl rfl)
theorem dX1_writeBench_19 : decode cX1_writeBench 19 = .ok (.bipush 64, 2) := dk_16 64 (dk_at dksX1_writeBench_0 19 rfl rfl)
theorem dX1_writeBench_21 : decode cX1_writeBench 21 = .ok (.invokevirtual 380, 3) := dk_182 1 124 (dk_at dksX1_writeBench_0 21 rfl rfl)
theorem dX1_writeBench_24 : decode cX1_writeBench 24 = .ok (.aload_n 2, 1) := dk_44 (dk_at dksX1_writeBench_1 0 rfl rfl)
theorem dX1_writeBench_25 : decode cX1_writeBench 25 = .ok (.invokevirtual 65, 3) := dk_182 0 65 (dk_at dksX1_writeBench_1 1 rfl rfl)
theorem dX1_writeBench_28 : decode cX1_writeBench 28 = .ok (.invokevirtual 376, 3) := dk_182 1 120 (dk_at dksX1_writeBench_1 4 rfl rfl)
theorem dX1_writeBench_31 : decode cX1_writeBench 31 = .ok (.bipush 44, 2) := dk_16 44 (dk_at dksX1_writeBench_1 7 rfl rfl)
theorem dX1_writeBench_33 : decode cX1_writeBench 33 = .ok (.invokevirtual 380, 3) := dk_182 1 124 (dk_at dksX1_writeBench_1 9 rfl rfl)
theorem dX1_writeBench_36 : decode cX1_writeBench 36 = .ok (.aload_n 2, 1) := dk_44 (dk_at dksX1_writeBench_1 12 rfl rfl)
theorem dX1_writeBench_37 : decode cX1_writeBench 37 = .ok (.invokevirtual 68, 3) := dk_182 0 68 (dk_at dksX1_writeBench_1 13 rfl rfl)
theorem dX1_writeBench_40 : decode cX1_writeBench 40 = .ok (.invokevirtual 376, 3) := dk_182 1 120 (dk_at dksX1_writeBench_1 16 rfl rfl)
theorem dX1_writeBench_43 : decode cX1_writeBench 43 = .ok (.bipush 36, 2) := dk_16 36 (dk_at dksX1_writeBench_1 19 rfl rfl)
theorem dX1_writeBench_45 : decode cX1_writeBench 45 = .ok (.invokevirtual 380, 3) := dk_182 1 124 (dk_at dksX1_writeBench_1 21 rfl rfl)
theorem dX1_writeBench_48 : decode cX1_writeBench 48 = .ok (.aload_n 0, 1) := dk_42 (dk_at dksX1_writeBench_2 0 rfl rfl)
theorem dX1_writeBench_49 : decode cX1_writeBench 49 = .ok (.getfield 120, 3) := dk_180 0 120 (dk_at dksX1_writeBench_2 1 rfl rfl)
theorem dX1_writeBench_52 : decode cX1_writeBench 52 = .ok (.aload_n 2, 1) := dk_44 (dk_at dksX1_writeBench_2 4 rfl rfl)
theorem dX1_writeBench_53 : decode cX1_writeBench 53 = .ok (.invokevirtual 245, 3) := dk_182 0 245 (dk_at dksX1_writeBench_2 5 rfl rfl)
theorem dX1_writeBench_56 : decode cX1_writeBench 56 = .ok (.invokevirtual 376, 3) := dk_182 1 120 (dk_at dksX1_writeBench_2 8 rfl rfl)
theorem dX1_writeBench_59 : decode cX1_writeBench 59 = .ok (.bipush 126, 2) := dk_16 126 (dk_at dksX1_writeBench_2 11 rfl rfl)
theorem dX1_writeBench_61 : decode cX1_writeBench 61 = .ok (.invokevirtual 380, 3) := dk_182 1 124 (dk_at dksX1_writeBench_2 13 rfl rfl)
theorem dX1_writeBench_64 : decode cX1_writeBench 64 = .ok (.aload_n 0, 1) := dk_42 (dk_at dksX1_writeBench_2 16 rfl rfl)
theorem dX1_writeBench_65 : decode cX1_writeBench 65 = .ok (.getfield 120, 3) := dk_180 0 120 (dk_at dksX1_writeBench_2 17 rfl rfl)
theorem dX1_writeBench_68 : decode cX1_writeBench 68 = .ok (.aload_n 2, 1) := dk_44 (dk_at dksX1_writeBench_2 20 rfl rfl)
theorem dX1_writeBench_69 : decode cX1_writeBench 69 = .ok (.invokevirtual 383, 3) := dk_182 1 127 (dk_at dksX1_writeBench_2 21 rfl rfl)
theorem dX1_writeBench_72 : decode cX1_writeBench 72 = .ok (.invokevirtual 376, 3) := dk_182 1 120 (dk_at dksX1_writeBench_3 0 rfl rfl)
theorem dX1_writeBench_75 : decode cX1_writeBench 75 = .ok (.pop, 1) := dk_87 (dk_at dksX1_writeBench_3 3 rfl rfl)
theorem dX1_writeBench_76 : decode cX1_writeBench 76 = .ok (.aload_n 2, 1) := dk_44 (dk_at dksX1_writeBench_3 4 rfl rfl)
theorem dX1_writeBench_77 : decode cX1_writeBench 77 = .ok (.invokevirtual 194, 3) := dk_182 0 194 (dk_at dksX1_writeBench_3 5 rfl rfl)
theorem dX1_writeBench_80 : decode cX1_writeBench 80 = .ok (.ifCond .eq 32, 3) := dk_153 0 32 (dk_at dksX1_writeBench_3 8 rfl rfl)
theorem dX1_writeBench_83 : decode cX1_writeBench 83 = .ok (.aload_n 3, 1) := dk_45 (dk_at dksX1_writeBench_3 11 rfl rfl)
theorem dX1_writeBench_84 : decode cX1_writeBench 84 = .ok (.bipush 61, 2) := dk_16 61 (dk_at dksX1_writeBench_3 12 rfl rfl)
theorem dX1_writeBench_86 : decode cX1_writeBench 86 = .ok (.invokevirtual 380, 3) := dk_182 1 124 (dk_at dksX1_writeBench_3 14 rfl rfl)
theorem dX1_writeBench_89 : decode cX1_writeBench 89 = .ok (.aload_n 2, 1) := dk_44 (dk_at dksX1_writeBench_3 17 rfl rfl)
theorem dX1_writeBench_90 : decode cX1_writeBench 90 = .ok (.getfield 317, 3) := dk_180 1 61 (dk_at dksX1_writeBench_3 18 rfl rfl)
theorem dX1_writeBench_93 : decode cX1_writeBench 93 = .ok (.invokevirtual 321, 3) := dk_182 1 65 (dk_at dksX1_writeBench_3 21 rfl rfl)
theorem dX1_writeBench_96 : decode cX1_writeBench 96 = .ok (.invokevirtual 376, 3) := dk_182 1 120 (dk_at dksX1_writeBench_4 0 rfl rfl)
theorem dX1_writeBench_99 : decode cX1_writeBench 99 = .ok (.bipush 47, 2) := dk_16 47 (dk_at dksX1_writeBench_4 3 rfl rfl)
theorem dX1_writeBench_101 : decode cX1_writeBench 101 = .ok (.invokevirtual 380, 3) := dk_182 1 124 (dk_at dksX1_writeBench_4 5 rfl rfl)
theorem dX1_writeBench_104 : decode cX1_writeBench 104 = .ok (.aload_n 2, 1) := dk_44 (dk_at dksX1_writeBench_4 8 rfl rfl)
theorem dX1_writeBench_105 : decode cX1_writeBench 105 = .ok (.getfield 81, 3) := dk_180 0 81 (dk_at dksX1_writeBench_4 9 rfl rfl)
theorem dX1_writeBench_108 : decode cX1_writeBench 108 = .ok (.invokevirtual 376, 3) := dk_182 1 120 (dk_at dksX1_writeBench_4 12 rfl rfl)
theorem dX1_writeBench_111 : decode cX1_writeBench 111 = .ok (.pop, 1) := dk_87 (dk_at dksX1_writeBench_4 15 rfl rfl)
theorem dX1_writeBench_112 : decode cX1_writeBench 112 = .ok (.aload_n 0, 1) := dk_42 (dk_at dksX1_writeBench_4 16 rfl rfl)
theorem dX1_writeBench_113 : decode cX1_writeBench 113 = .ok (.aload_n 3, 1) := dk_45 (dk_at dksX1_writeBench_4 17 rfl rfl)
theorem dX1_writeBench_114 : decode cX1_writeBench 114 = .ok (.invokevirtual 386, 3) := dk_182 1 130 (dk_at dksX1_writeBench_4 18 rfl rfl)
theorem dX1_writeBench_117 : decode cX1_writeBench 117 = .ok (.ireturn, 1) := dk_172 (dk_at dksX1_writeBench_4 21 rfl rfl)
abbrev cX1_write : ByteArray := prog_1_method_28_code
def yX1_write : MethodName := ⟨RX1, "write", "(Ljava/lang/StringBuilder;)I"⟩
def dkwX1_write_0 : List UInt8 := [42, 43, 182, 0, 200, 181, 0, 138, 42, 180, 0, 138, 182, 0, 204, 172]
abbrev dktX1_write_0 : List UInt8 := dkwX1_write_0 ++ []
theorem dksX1_write_0 : cX1_write.data.toList.drop 0 = dktX1_write_0 := by decide +kernel
theorem dX1_write_0 : decode cX1_write 0 = .ok (.aload_n 0, 1) := dk_42 (dk_at dksX1_write_0 0 rfl rfl)
theorem dX1_write_1 : decode cX1_write 1 = .ok (.aload_n 1, 1) := dk_43 (dk_at dksX1_write_0 1 rfl rfl)
theorem dX1_write_2 : decode cX1_write 2 = .ok (.invokevirtual 200, 3) := dk_182 0 200 (dk_at dksX1_write_0 2 rfl rfl)
theorem dX1_write_5 : decode cX1_write 5 = .ok (.putfield 138, 3) := dk_181 0 138 (dk_at dksX1_write_0 5 rfl rfl)
theorem dX1_write_8 : decode cX1_write 8 = .ok (.aload_n 0, 1) := dk_42 (dk_at dksX1_write_0 8 rfl rfl)
theorem dX1_write_9 : decode cX1_write 9 = .ok (.getfield 138, 3) := dk_180 0 138 (dk_at dksX1_write_0 9 rfl rfl)
theorem dX1_write_12 : decode cX1_write 12 = .ok (.invokevirtual 204, 3) := dk_182 0 204 (dk_at dksX1_write_0 12 rfl rfl)
theorem dX1_write_15 : decode cX1_write 15 = .ok (.ireturn, 1) := dk_172 (dk_at dksX1_write_0 15 rfl rfl)
abbrev cX1_writeRow : ByteArray := prog_1_method_82_code
def yX1_writeRow : MethodName := ⟨RX1, "writeRow", "(I)I"⟩
def dkwX1_writeRow_2 : List UInt8 := [182, 1, 130, 172]
abbrev dktX1_writeRow_2 : List UInt8 := dkwX1_writeRow_2 ++ []
def dkwX1_writeRow_1 : List UInt8 := [162, 0, 20, 44, 42, 27, 29, 182, 1, 143, 182, 1, 124, 87, 132, 3, 1, 167, 255, 236, 42, 44]
abbrev dktX1_writeRow_1 : List UInt8 := dkwX1_writeRow_1 ++ dktX1_writeRow_2
def dkwX1_writeRow_0 : List UInt8 := [27, 3, 8, 184, 0, 3, 184, 0, 176, 187, 0, 129, 89, 183, 0, 131, 77, 3, 62, 29, 16, 6]
abbrev dktX1_writeRow_0 : List UInt8 := dkwX1_writeRow_0 ++ dktX1_writeRow_1
theorem dksX1_writeRow_0 : cX1_writeRow.data.toList.drop 0 = dktX1_writeRow_0 := by decide +kernel
theorem dksX1_writeRow_1 : cX1_writeRow.data.toList.drop 22 = dktX1_writeRow_1 := dk_seg dksX1_writeRow_0 22 rfl rfl
theorem dksX1_writeRow_2 : cX1_writeRow.data.toList.drop 44 = dktX1_writeRow_2 := dk_seg dksX1_writeRow_1 22 rfl rfl
theorem dX1_writeRow_0 : decode cX1_writeRow 0 = .ok (.iload_n 1, 1) := dk_27 (dk_at dksX1_writeRow_0 0 rfl rfl)
theorem dX1_writeRow_1 : decode cX1_writeRow 1 = .ok (.iconst 0, 1) := dk_3 (dk_at dksX1_writeRow_0 1 rfl rfl)
theorem dX1_writeRow_2 : decode cX1_writeRow 2 = .ok (.iconst 5, 1) := dk_8 (dk_at dksX1_writeRow_0 2 rfl rfl)
theorem dX1_writeRow_3 : decode cX1_writeRow 3 = .ok (.invokestatic 3, 3) := dk_184 0 3 (dk_at dksX1_writeRow_0 3 rfl rfl)
theorem dX1_writeRow_6 : decode cX1_writeRow 6 = .ok (.invokestatic 176, 3) := dk_184 0 176 (dk_at dksX1_writeRow_0 6 rfl rfl)
theorem dX1_writeRow_9 : decode cX1_writeRow 9 = .ok (.new 129, 3) := dk_187 0 129 (dk_at dksX1_writeRow_0 9 rfl rfl)
theorem dX1_writeRow_12 : decode cX1_writeRow 12 = .ok (.dup, 1) := dk_89 (dk_at dksX1_writeRow_0 12 rfl rfl)
theorem dX1_writeRow_13 : decode cX1_writeRow 13 = .ok (.invokespecial 131, 3) := dk_183 0 131 (dk_at dksX1_writeRow_0 13 rfl rfl)
theorem dX1_writeRow_16 : decode cX1_writeRow 16 = .ok (.astore_n 2, 1) := dk_77 (dk_at dksX1_writeRow_0 16 rfl rfl)
theorem dX1_writeRow_17 : decode cX1_writeRow 17 = .ok (.iconst 0, 1) := dk_3 (dk_at dksX1_writeRow_0 17 rfl rfl)
theorem dX1_writeRow_18 : decode cX1_writeRow 18 = .ok (.istore_n 3, 1) := dk_62 (dk_at dksX1_writeRow_0 18 rfl rfl)
theorem dX1_writeRow_19 : decode cX1_writeRow 19 = .ok (.iload_n 3, 1) := dk_29 (dk_at dksX1_writeRow_0 19 rfl rfl)
theorem dX1_writeRow_20 : decode cX1_writeRow 20 = .ok (.bipush 6, 2) := dk_16 6 (dk_at dksX1_writeRow_0 20 rfl rfl)
theorem dX1_writeRow_22 : decode cX1_writeRow 22 = .ok (.if_icmp .ge 20, 3) := dk_162 0 20 (dk_at dksX1_writeRow_1 0 rfl rfl)
theorem dX1_writeRow_25 : decode cX1_writeRow 25 = .ok (.aload_n 2, 1) := dk_44 (dk_at dksX1_writeRow_1 3 rfl rfl)
theorem dX1_writeRow_26 : decode cX1_writeRow 26 = .ok (.aload_n 0, 1) := dk_42 (dk_at dksX1_writeRow_1 4 rfl rfl)
theorem dX1_writeRow_27 : decode cX1_writeRow 27 = .ok (.iload_n 1, 1) := dk_27 (dk_at dksX1_writeRow_1 5 rfl rfl)
theorem dX1_writeRow_28 : decode cX1_writeRow 28 = .ok (.iload_n 3, 1) := dk_29 (dk_at dksX1_writeRow_1 6 rfl rfl)
theorem dX1_writeRow_29 : decode cX1_writeRow 29 = .ok (.invokevirtual 399, 3) := dk_182 1 143 (dk_at dksX1_writeRow_1 7 rfl rfl)
theorem dX1_writeRow_32 : decode cX1_writeRow 32 = .ok (.invokevirtual 380, 3) := dk_182 1 124 (dk_at dksX1_writeRow_1 10 rfl rfl)
theorem dX1_writeRow_35 : decode cX1_writeRow 35 = .ok (.pop, 1) := dk_87 (dk_at dksX1_writeRow_1 13 rfl rfl)
theorem dX1_writeRow_36 : decode cX1_writeRow 36 = .ok (.iinc 3 1, 3) := dk_132 3 1 (dk_at dksX1_writeRow_1 14 rfl rfl)
theorem dX1_writeRow_39 : decode cX1_writeRow 39 = .ok (.goto (-20), 3) := dk_167 255 236 (dk_at dksX1_writeRow_1 17 rfl rfl)
theorem dX1_writeRow_42 : decode cX1_writeRow 42 = .ok (.aload_n 0, 1) := dk_42 (dk_at dksX1_writeRow_1 20 rfl rfl)
theorem dX1_writeRow_43 : decode cX1_writeRow 43 = .ok (.aload_n 2, 1) := dk_44 (dk_at dksX1_writeRow_1 21 rfl rfl)
theorem dX1_writeRow_44 : decode cX1_writeRow 44 = .ok (.invokevirtual 386, 3) := dk_182 1 130 (dk_at dksX1_writeRow_2 0 rfl rfl)
theorem dX1_writeRow_47 : decode cX1_writeRow 47 = .ok (.ireturn, 1) := dk_172 (dk_at dksX1_writeRow_2 3 rfl rfl)
abbrev cX1_signAt : ByteArray := prog_1_method_81_code
def yX1_signAt : MethodName := ⟨RX1, "signAt", "(II)C"⟩
def dkwX1_signAt_3 : List UInt8 := [182, 0, 36, 192, 0, 183, 182, 1, 142, 172]
abbrev dktX1_signAt_3 : List UInt8 := dkwX1_signAt_3 ++ []
def dkwX1_signAt_2 : List UInt8 := [182, 1, 138, 172, 21, 4, 2, 160, 0, 8, 16, 46, 167, 0, 21, 42, 180, 0, 120, 180, 0, 180, 21, 4]
abbrev dktX1_signAt_2 : List UInt8 := dkwX1_signAt_2 ++ dktX1_signAt_3
def dkwX1_signAt_1 : List UInt8 := [184, 1, 134, 54, 4, 29, 2, 159, 0, 21, 42, 180, 0, 120, 180, 0, 168, 29, 182, 0, 36, 192, 0, 62]
abbrev dktX1_signAt_1 : List UInt8 := dkwX1_signAt_1 ++ dktX1_signAt_2
def dkwX1_signAt_0 : List UInt8 := [42, 180, 0, 120, 180, 0, 168, 27, 28, 184, 1, 134, 62, 42, 180, 0, 120, 180, 0, 180, 27, 28]
abbrev dktX1_signAt_0 : List UInt8 := dkwX1_signAt_0 ++ dktX1_signAt_1
theorem dksX1_signAt_0 : cX1_signAt.data.toList.drop 0 = dktX1_signAt_0 := by decide +kernel
theorem dksX1_signAt_1 : cX1_signAt.data.toList.drop 22 = dktX1_signAt_1 := dk_seg dksX1_signAt_0 22 rfl rfl
theorem dksX1_signAt_2 : cX1_signAt.data.toList.drop 46 = dktX1_signAt_2 := dk_seg dksX1_signAt_1 24 rfl rfl
theorem dksX1_signAt_3 : cX1_signAt.data.toList.drop 70 = dktX1_signAt_3 := dk_seg dksX1_signAt_2 24 rfl rfl
theorem dX1_signAt_0 : decode cX1_signAt 0 = .ok (.aload_n 0, 1) := dk_42 (dk_at dksX1_signAt_0 0 rfl rfl)
theorem dX1_signAt_1 : decode cX1_signAt 1 = .ok (.getfield 120, 3) := dk_180 0 120 (dk_at dksX1_signAt_0 1 rfl rfl)
theorem dX1_signAt_4 : decode cX1_signAt 4 = .ok (.getfield 168, 3) := dk_180 0 168 (dk_at dksX1_signAt_0 4 rfl rfl)
theorem dX1_signAt_7 : decode cX1_signAt 7 = .ok (.iload_n 1, 1) := dk_27 (dk_at dksX1_signAt_0 7 rfl rfl)
theorem dX1_signAt_8 : decode cX1_signAt 8 = .ok (.iload_n 2, 1) := dk_28 (dk_at dksX1_signAt_0 8 rfl rfl)
theorem dX1_signAt_9 : decode cX1_signAt 9 = .ok (.invokestatic 390, 3) := dk_184 1 134 (dk_at dksX1_signAt_0 9 rfl rfl)
theorem dX1_signAt_12 : decode cX1_signAt 12 = .ok (.istore_n 3, 1) := dk_62 (dk_at dksX1_signAt_0 12 rfl rfl)
theorem dX1_signAt_13 : decode cX1_signAt 13 = .ok (.aload_n 0, 1) := dk_42 (dk_at dksX1_signAt_0 13 rfl rfl)
theorem dX1_signAt_14 : decode cX1_signAt 14 = .ok (.getfield 120, 3) := dk_180 0 120 (dk_at dksX1_signAt_0 14 rfl rfl)
theorem dX1_signAt_17 : decode cX1_signAt 17 = .ok (.getfield 180, 3) := dk_180 0 180 (dk_at dksX1_signAt_0 17 rfl rfl)
theorem dX1_signAt_20 : decode cX1_signAt 20 = .ok (.iload_n 1, 1) := dk_27 (dk_at dksX1_signAt_0 20 rfl rfl)
theorem dX1_signAt_21 : decode cX1_signAt 21 = .ok (.iload_n 2, 1) := dk_28 (dk_at dksX1_signAt_0 21 rfl rfl)
theorem dX1_signAt_22 : decode cX1_signAt 22 = .ok (.invokestatic 390, 3) := dk_184 1 134 (dk_at dksX1_signAt_1 0 rfl rfl)
theorem dX1_signAt_25 : decode cX1_signAt 25 = .ok (.istore 4, 2) := dk_54 4 (dk_at dksX1_signAt_1 3 rfl rfl)
theorem dX1_signAt_27 : decode cX1_signAt 27 = .ok (.iload_n 3, 1) := dk_29 (dk_at dksX1_signAt_1 5 rfl rfl)
theorem dX1_signAt_28 : decode cX1_signAt 28 = .ok (.iconst (-1), 1) := dk_2 (dk_at dksX1_signAt_1 6 rfl rfl)
theorem dX1_signAt_29 : decode cX1_signAt 29 = .ok (.if_icmp .eq 21, 3) := dk_159 0 21 (dk_at dksX1_signAt_1 7 rfl rfl)
theorem dX1_signAt_32 : decode cX1_signAt 32 = .ok (.aload_n 0, 1) := dk_42 (dk_at dksX1_signAt_1 10 rfl rfl)
theorem dX1_signAt_33 : decode cX1_signAt 33 = .ok (.getfield 120, 3) := dk_180 0 120 (dk_at dksX1_signAt_1 11 rfl rfl)
theorem dX1_signAt_36 : decode cX1_signAt 36 = .ok (.getfield 168, 3) := dk_180 0 168 (dk_at dksX1_signAt_1 14 rfl rfl)
theorem dX1_signAt_39 : decode cX1_signAt 39 = .ok (.iload_n 3, 1) := dk_29 (dk_at dksX1_signAt_1 17 rfl rfl)
theorem dX1_signAt_40 : decode cX1_signAt 40 = .ok (.invokevirtual 36, 3) := dk_182 0 36 (dk_at dksX1_signAt_1 18 rfl rfl)
theorem dX1_signAt_43 : decode cX1_signAt 43 = .ok (.checkcast 62, 3) := dk_192 0 62 (dk_at dksX1_signAt_1 21 rfl rfl)
theorem dX1_signAt_46 : decode cX1_signAt 46 = .ok (.invokevirtual 394, 3) := dk_182 1 138 (dk_at dksX1_signAt_2 0 rfl rfl)
theorem dX1_signAt_49 : decode cX1_signAt 49 = .ok (.ireturn, 1) := dk_172 (dk_at dksX1_signAt_2 3 rfl rfl)
theorem dX1_signAt_50 : decode cX1_signAt 50 = .ok (.iload 4, 2) := dk_21 4 (dk_at dksX1_signAt_2 4 rfl rfl)
theorem dX1_signAt_52 : decode cX1_signAt 52 = .ok (.iconst (-1), 1) := dk_2 (dk_at dksX1_signAt_2 6 rfl rfl)
theorem dX1_signAt_53 : decode cX1_signAt 53 = .ok (.if_icmp .ne 8, 3) := dk_160 0 8 (dk_at dksX1_signAt_2 7 rfl rfl)
theorem dX1_signAt_56 : decode cX1_signAt 56 = .ok (.bipush 46, 2) := dk_16 46 (dk_at dksX1_signAt_2 10 rfl rfl)
theorem dX1_signAt_58 : decode cX1_signAt 58 = .ok (.goto 21, 3) := dk_167 0 21 (dk_at dksX1_signAt_2 12 rfl rfl)
theorem dX1_signAt_61 : decode cX1_signAt 61 = .ok (.aload_n 0, 1) := dk_42 (dk_at dksX1_signAt_2 15 rfl rfl)
theorem dX1_signAt_62 : decode cX1_signAt 62 = .ok (.getfield 120, 3) := dk_180 0 120 (dk_at dksX1_signAt_2 16 rfl rfl)
theorem dX1_signAt_65 : decode cX1_signAt 65 = .ok (.getfield 180, 3) := dk_180 0 180 (dk_at dksX1_signAt_2 19 rfl rfl)
theorem dX1_signAt_68 : decode cX1_signAt 68 = .ok (.iload 4, 2) := dk_21 4 (dk_at dksX1_signAt_2 22 rfl rfl)
theorem dX1_signAt_70 : decode cX1_signAt 70 = .ok (.invokevirtual 36, 3) := dk_182 0 36 (dk_at dksX1_signAt_3 0 rfl rfl)
theorem dX1_signAt_73 : decode cX1_signAt 73 = .ok (.checkcast 183, 3) := dk_192 0 183 (dk_at dksX1_signAt_3 3 rfl rfl)
theorem dX1_signAt_76 : decode cX1_signAt 76 = .ok (.invokevirtual 398, 3) := dk_182 1 142 (dk_at dksX1_signAt_3 6 rfl rfl)
theorem dX1_signAt_79 : decode cX1_signAt 79 = .ok (.ireturn, 1) := dk_172 (dk_at dksX1_signAt_3 9 rfl rfl)
abbrev cX1_outputAt : ByteArray := prog_1_method_83_code
def yX1_outputAt : MethodName := ⟨RX1, "outputAt", "(I)C"⟩
def dkwX1_outputAt_1 : List UInt8 := [182, 1, 147, 172]
abbrev dktX1_outputAt_1 : List UInt8 := dkwX1_outputAt_1 ++ []
def dkwX1_outputAt_0 : List UInt8 := [27, 3, 42, 180, 0, 138, 182, 0, 204, 4, 100, 184, 0, 3, 184, 0, 176, 42, 180, 0, 138, 27]
abbrev dktX1_outputAt_0 : List UInt8 := dkwX1_outputAt_0 ++ dktX1_outputAt_1
theorem dksX1_outputAt_0 : cX1_outputAt.data.toList.drop 0 = dktX1_outputAt_0 := by decide +kernel
theorem dksX1_outputAt_1 : cX1_outputAt.data.toList.drop 22 = dktX1_outputAt_1 := dk_seg dksX1_outputAt_0 22 rfl rfl
theorem dX1_outputAt_0 : decode cX1_outputAt 0 = .ok (.iload_n 1, 1) := dk_27 (dk_at dksX1_outputAt_0 0 rfl rfl)
theorem dX1_outputAt_1 : decode cX1_outputAt 1 = .ok (.iconst 0, 1) := dk_3 (dk_at dksX1_outputAt_0 1 rfl rfl)
theorem dX1_outputAt_2 : decode cX1_outputAt 2 = .ok (.aload_n 0, 1) := dk_42 (dk_at dksX1_outputAt_0 2 rfl rfl)
theorem dX1_outputAt_3 : decode cX1_outputAt 3 = .ok (.getfield 138, 3) := dk_180 0 138 (dk_at dksX1_outputAt_0 3 rfl rfl)
theorem dX1_outputAt_6 : decode cX1_outputAt 6 = .ok (.invokevirtual 204, 3) := dk_182 0 204 (dk_at dksX1_outputAt_0 6 rfl rfl)
theorem dX1_outputAt_9 : decode cX1_outputAt 9 = .ok (.iconst 1, 1) := dk_4 (dk_at dksX1_outputAt_0 9 rfl rfl)
theorem dX1_outputAt_10 : decode cX1_outputAt 10 = .ok (.isub, 1) := dk_100 (dk_at dksX1_outputAt_0 10 rfl rfl)
theorem dX1_outputAt_11 : decode cX1_outputAt 11 = .ok (.invokestatic 3, 3) := dk_184 0 3 (dk_at dksX1_outputAt_0 11 rfl rfl)
theorem dX1_outputAt_14 : decode cX1_outputAt 14 = .ok (.invokestatic 176, 3) := dk_184 0 176 (dk_at dksX1_outputAt_0 14 rfl rfl)
theorem dX1_outputAt_17 : decode cX1_outputAt 17 = .ok (.aload_n 0, 1) := dk_42 (dk_at dksX1_outputAt_0 17 rfl rfl)
theorem dX1_outputAt_18 : decode cX1_outputAt 18 = .ok (.getfield 138, 3) := dk_180 0 138 (dk_at dksX1_outputAt_0 18 rfl rfl)
theorem dX1_outputAt_21 : decode cX1_outputAt 21 = .ok (.iload_n 1, 1) := dk_27 (dk_at dksX1_outputAt_0 21 rfl rfl)
theorem dX1_outputAt_22 : decode cX1_outputAt 22 = .ok (.invokevirtual 403, 3) := dk_182 1 147 (dk_at dksX1_outputAt_1 0 rfl rfl)
theorem dX1_outputAt_25 : decode cX1_outputAt 25 = .ok (.ireturn, 1) := dk_172 (dk_at dksX1_outputAt_1 3 rfl rfl)
abbrev cX1_appendInput : ByteArray := prog_1_method_84_code
def yX1_appendInput : MethodName := ⟨RX1, "appendInput", "(C)I"⟩
def dkwX1_appendInput_1 : List UInt8 := [167, 0, 4, 3, 184, 1, 152, 42, 180, 0, 132, 27, 182, 1, 124, 87, 42, 180, 0, 132, 182, 1, 151, 172]
abbrev dktX1_appendInput_1 : List UInt8 := dkwX1_appendInput_1 ++ []
def dkwX1_appendInput_0 : List UInt8 := [27, 16, 32, 16, 126, 184, 0, 3, 184, 0, 216, 42, 180, 0, 132, 182, 1, 151, 16, 60, 162, 0, 7, 4]
abbrev dktX1_appendInput_0 : List UInt8 := dkwX1_appendInput_0 ++ dktX1_appendInput_1
theorem dksX1_appendInput_0 : cX1_appendInput.data.toList.drop 0 = dktX1_appendInput_0 := by decide +kernel
theorem dksX1_appendInput_1 : cX1_appendInput.data.toList.drop 24 = dktX1_appendInput_1 := dk_seg dksX1_appendInput_0 24 rfl rfl
theorem dX1_appendInput_0 : decode cX1_appendInput 0 = .ok (.iload_n 1, 1) := dk_27 (dk_at dksX1_appendInput_0 0 rfl rfl)
theorem dX1_appendInput_1 : decode cX1_appendInput 1 = .ok (.bipush 32, 2) := dk_16 32 (dk_at dksX1_appendInput_0 1 rfl rfl)
theorem dX1_appendInput_3 : decode cX1_appendInput 3 = .ok (.bipush 126, 2) := dk_16 126 (dk_at dksX1_appendInput_0 3 rfl rfl)
theorem dX1_appendInput_5 : decode cX1_appendInput 5 = .ok (.invokestatic 3, 3) := dk_184 0 3 (dk_at dksX1_appendInput_0 5 rfl rfl)
theorem dX1_appendInput_8 : decode cX1_appendInput 8 = .ok (.invokestatic 216, 3) := dk_184 0 216 (dk_at dksX1_appendInput_0 8 rfl rfl)
theorem dX1_appendInput_11 : decode cX1_appendInput 11 = .ok (.aload_n 0, 1) := dk_42 (dk_at dksX1_appendInput_0 11 rfl rfl)
theorem dX1_appendInput_12 : decode cX1_appendInput 12 = .ok (.getfield 132, 3) := dk_180 0 132 (dk_at dksX1_appendInput_0 12 rfl rfl)
theorem dX1_appendInput_15 : decode cX1_appendInput 15 = .ok (.invokevirtual 407, 3) := dk_182 1 151 (dk_at dksX1_appendInput_0 15 rfl rfl)
theorem dX1_appendInput_18 : decode cX1_appendInput 18 = .ok (.bipush 60, 2) := dk_16 60 (dk_at dksX1_appendInput_0 18 rfl rfl)
theorem dX1_appendInput_20 : decode cX1_appendInput 20 = .ok (.if_icmp .ge 7, 3) := dk_162 0 7 (dk_at dksX1_appendInput_0 20 rfl rfl)
theorem dX1_appendInput_23 : decode cX1_appendInput 23 = .ok (.iconst 1, 1) := dk_4 (dk_at dksX1_appendInput_0 23 rfl rfl)
theorem dX1_appendInput_24 : decode cX1_appendInput 24 = .ok (.goto 4, 3) := dk_167 0 4 (dk_at dksX1_appendInput_1 0 rfl rfl)
theorem dX1_appendInput_27 : decode cX1_appendInput 27 = .ok (.iconst 0, 1) := dk_3 (dk_at dksX1_appendInput_1 3 rfl rfl)
theorem dX1_appendInput_28 : decode cX1_appendInput 28 = .ok (.invokestatic 408, 3) := dk_184 1 152 (dk_at dksX1_appendInput_1 4 rfl rfl)
theorem dX1_appendInput_31 : decode cX1_appendInput 31 = .ok (.aload_n 0, 1) := dk_42 (dk_at dksX1_appendInput_1 7 rfl rfl)
theorem dX1_appendInput_32 : decode cX1_appendInput 32 = .ok (.getfield 132, 3) := dk_180 0 132 (dk_at dksX1_appendInput_1 8 rfl rfl)
theorem dX1_appendInput_35 : decode cX1_appendInput 35 = .ok (.iload_n 1, 1) := dk_27 (dk_at dksX1_appendInput_1 11 rfl rfl)
theorem dX1_appendInput_36 : decode cX1_appendInput 36 = .ok (.invokevirtual 380, 3) := dk_182 1 124 (dk_at dksX1_appendInput_1 12 rfl rfl)
theorem dX1_appendInput_39 : decode cX1_appendInput 39 = .ok (.pop, 1) := dk_87 (dk_at dksX1_appendInput_1 15 rfl rfl)
theorem dX1_appendInput_40 : decode cX1_appendInput 40 = .ok (.aload_n 0, 1) := dk_42 (dk_at dksX1_appendInput_1 16 rfl rfl)
theorem dX1_appendInput_41 : decode cX1_appendInput 41 = .ok (.getfield 132, 3) := dk_180 0 132 (dk_at dksX1_appendInput_1 17 rfl rfl)
theorem dX1_appendInput_44 : decode cX1_appendInput 44 = .ok (.invokevirtual 407, 3) := dk_182 1 151 (dk_at dksX1_appendInput_1 20 rfl rfl)
theorem dX1_appendInput_47 : decode cX1_appendInput 47 = .ok (.ireturn, 1) := dk_172 (dk_at dksX1_appendInput_1 23 rfl rfl)
abbrev cX1_requireState : ByteArray := prog_1_method_12_code
def yX1_requireState : MethodName := ⟨RX1, "requireState", "(Z)V"⟩
def dkwX1_requireState_0 : List UInt8 := [26, 154, 0, 11, 187, 0, 16, 89, 183, 0, 18, 191, 177]
abbrev dktX1_requireState_0 : List UInt8 := dkwX1_requireState_0 ++ []
theorem dksX1_requireState_0 : cX1_requireState.data.toList.drop 0 = dktX1_requireState_0 := by decide +kernel
theorem dX1_requireState_0 : decode cX1_requireState 0 = .ok (.iload_n 0, 1) := dk_26 (dk_at dksX1_requireState_0 0 rfl rfl)
theorem dX1_requireState_1 : decode cX1_requireState 1 = .ok (.ifCond .ne 11, 3) := dk_154 0 11 (dk_at dksX1_requireState_0 1 rfl rfl)
theorem dX1_requireState_4 : decode cX1_requireState 4 = .ok (.new 16, 3) := dk_187 0 16 (dk_at dksX1_requireState_0 4 rfl rfl)
theorem dX1_requireState_7 : decode cX1_requireState 7 = .ok (.dup, 1) := dk_89 (dk_at dksX1_requireState_0 7 rfl rfl)
theorem dX1_requireState_8 : decode cX1_requireState 8 = .ok (.invokespecial 18, 3) := dk_183 0 18 (dk_at dksX1_requireState_0 8 rfl rfl)
theorem dX1_requireState_11 : decode cX1_requireState 11 = .ok (.athrow, 1) := dk_191 (dk_at dksX1_requireState_0 11 rfl rfl)
theorem dX1_requireState_12 : decode cX1_requireState 12 = .ok (.return_, 1) := dk_177 (dk_at dksX1_requireState_0 12 rfl rfl)
abbrev cX1_execute : ByteArray := prog_1_method_85_code
def yX1_execute : MethodName := ⟨RX1, "execute", "()I"⟩
def dkwX1_execute_3 : List UInt8 := [44, 181, 0, 161, 187, 0, 165, 89, 183, 0, 167, 191]
abbrev dktX1_execute_3 : List UInt8 := dkwX1_execute_3 ++ []
def dkwX1_execute_2 : List UInt8 := [42, 44, 181, 1, 173, 187, 0, 13, 89, 183, 0, 15, 191, 77, 187, 0, 16, 89, 183, 0, 18, 191, 77, 42]
abbrev dktX1_execute_2 : List UInt8 := dkwX1_execute_2 ++ dktX1_execute_3
def dkwX1_execute_1 : List UInt8 := [180, 0, 120, 182, 0, 150, 77, 43, 182, 1, 164, 44, 184, 1, 168, 62, 42, 44, 29, 182, 0, 157, 172, 77]
abbrev dktX1_execute_1 : List UInt8 := dkwX1_execute_1 ++ dktX1_execute_2
def dkwX1_execute_0 : List UInt8 := [187, 1, 155, 89, 42, 180, 0, 132, 182, 0, 200, 183, 1, 157, 76, 42, 180, 0, 132, 3, 182, 1, 160, 42]
abbrev dktX1_execute_0 : List UInt8 := dkwX1_execute_0 ++ dktX1_execute_1
theorem dksX1_execute_0 : cX1_execute.data.toList.drop 0 = dktX1_execute_0 := by decide +kernel
theorem dksX1_execute_1 : cX1_execute.data.toList.drop 24 = dktX1_execute_1 := dk_seg dksX1_execute_0 24 rfl rfl
theorem dksX1_execute_2 : cX1_execute.data.toList.drop 48 = dktX1_execute_2 := dk_seg dksX1_execute_1 24 rfl rfl
theorem dksX1_execute_3 : cX1_execute.data.toList.drop 72 = dktX1_execute_3 := dk_seg dksX1_execute_2 24 rfl rfl
theorem dX1_execute_0 : decode cX1_execute 0 = .ok (.new 411, 3) := dk_187 1 155 (dk_at dksX1_execute_0 0 rfl rfl)
theorem dX1_execute_3 : decode cX1_execute 3 = .ok (.dup, 1) := dk_89 (dk_at dksX1_execute_0 3 rfl rfl)
theorem dX1_execute_4 : decode cX1_execute 4 = .ok (.aload_n 0, 1) := dk_42 (dk_at dksX1_execute_0 4 rfl rfl)
theorem dX1_execute_5 : decode cX1_execute 5 = .ok (.getfield 132, 3) := dk_180 0 132 (dk_at dksX1_execute_0 5 rfl rfl)
theorem dX1_execute_8 : decode cX1_execute 8 = .ok (.invokevirtual 200, 3) := dk_182 0 200 (dk_at dksX1_execute_0 8 rfl rfl)
theorem dX1_execute_11 : decode cX1_execute 11 = .ok (.invokespecial 413, 3) := dk_183 1 157 (dk_at dksX1_execute_0 11 rfl rfl)
theorem dX1_execute_14 : decode cX1_execute 14 = .ok (.astore_n 1, 1) := dk_76 (dk_at dksX1_execute_0 14 rfl rfl)
theorem dX1_execute_15 : decode cX1_execute 15 = .ok (.aload_n 0, 1) := dk_42 (dk_at dksX1_execute_0 15 rfl rfl)
theorem dX1_execute_16 : decode cX1_execute 16 = .ok (.getfield 132, 3) := dk_180 0 132 (dk_at dksX1_execute_0 16 rfl rfl)
theorem dX1_execute_19 : decode cX1_execute 19 = .ok (.iconst 0, 1) := dk_3 (dk_at dksX1_execute_0 19 rfl rfl)
theorem dX1_execute_20 : decode cX1_execute 20 = .ok (.invokevirtual 416, 3) := dk_182 1 160 (dk_at dksX1_execute_0 20 rfl rfl)
theorem dX1_execute_23 : decode cX1_execute 23 = .ok (.aload_n 0, 1) := dk_42 (dk_at dksX1_execute_0 23 rfl rfl)
theorem dX1_execute_24 : decode cX1_execute 24 = .ok (.getfield 120, 3) := dk_180 0 120 (dk_at dksX1_execute_1 0 rfl rfl)
theorem dX1_execute_27 : decode cX1_execute 27 = .ok (.invokevirtual 150, 3) := dk_182 0 150 (dk_at dksX1_execute_1 3 rfl rfl)
theorem dX1_execute_30 : decode cX1_execute 30 = .ok (.astore_n 2, 1) := dk_77 (dk_at dksX1_execute_1 6 rfl rfl)
theorem dX1_execute_31 : decode cX1_execute 31 = .ok (.aload_n 1, 1) := dk_43 (dk_at dksX1_execute_1 7 rfl rfl)
theorem dX1_execute_32 : decode cX1_execute 32 = .ok (.invokevirtual 420, 3) := dk_182 1 164 (dk_at dksX1_execute_1 8 rfl rfl)
theorem dX1_execute_35 : decode cX1_execute 35 = .ok (.aload_n 2, 1) := dk_44 (dk_at dksX1_execute_1 11 rfl rfl)
theorem dX1_execute_36 : decode cX1_execute 36 = .ok (.invokestatic 424, 3) := dk_184 1 168 (dk_at dksX1_execute_1 12 rfl rfl)
theorem dX1_execute_39 : decode cX1_execute 39 = .ok (.istore_n 3, 1) := dk_62 (dk_at dksX1_execute_1 15 rfl rfl)
theorem dX1_execute_40 : decode cX1_execute 40 = .ok (.aload_n 0, 1) := dk_42 (dk_at dksX1_execute_1 16 rfl rfl)
theorem dX1_execute_41 : decode cX1_execute 41 = .ok (.aload_n 2, 1) := dk_44 (dk_at dksX1_execute_1 17 rfl rfl)
theorem dX1_execute_42 : decode cX1_execute 42 = .ok (.iload_n 3, 1) := dk_29 (dk_at dksX1_execute_1 18 rfl rfl)
theorem dX1_execute_43 : decode cX1_execute 43 = .ok (.invokevirtual 157, 3) := dk_182 0 157 (dk_at dksX1_execute_1 19 rfl rfl)
theorem dX1_execute_46 : decode cX1_execute 46 = .ok (.ireturn, 1) := dk_172 (dk_at dksX1_execute_1 22 rfl rfl)
theorem dX1_execute_47 : decode cX1_execute 47 = .ok (.astore_n 2, 1) := dk_77 (dk_at dksX1_execute_1 23 rfl rfl)
theorem dX1_execute_48 : decode cX1_execute 48 = .ok (.aload_n 0, 1) := dk_42 (dk_at dksX1_execute_2 0 rfl rfl)
theorem dX1_execute_49 : decode cX1_execute 49 = .ok (.aload_n 2, 1) := dk_44 (dk_at dksX1_execute_2 1 rfl rfl)
theorem dX1_execute_50 : decode cX1_execute 50 = .ok (.putfield 429, 3) := dk_181 1 173 (dk_at dksX1_execute_2 2 rfl rfl)
theorem dX1_execute_53 : decode cX1_execute 53 = .ok (.new 13, 3) := dk_187 0 13 (dk_at dksX1_execute_2 5 rfl rfl)
theorem dX1_execute_56 : decode cX1_execute 56 = .ok (.dup, 1) := dk_89 (dk_at dksX1_execute_2 8 rfl rfl)
theorem dX1_execute_57 : decode cX1_execute 57 = .ok (.invokespecial 15, 3) := dk_183 0 15 (dk_at dksX1_execute_2 9 rfl rfl)
theorem dX1_execute_60 : decode cX1_execute 60 = .ok (.athrow, 1) := dk_191 (dk_at dksX1_execute_2 12 rfl rfl)
theorem dX1_execute_61 : decode cX1_execute 61 = .ok (.astore_n 2, 1) := dk_77 (dk_at dksX1_execute_2 13 rfl rfl)
theorem dX1_execute_62 : decode cX1_execute 62 = .ok (.new 16, 3) := dk_187 0 16 (dk_at dksX1_execute_2 14 rfl rfl)
theorem dX1_execute_65 : decode cX1_execute 65 = .ok (.dup, 1) := dk_89 (dk_at dksX1_execute_2 17 rfl rfl)
theorem dX1_execute_66 : decode cX1_execute 66 = .ok (.invokespecial 18, 3) := dk_183 0 18 (dk_at dksX1_execute_2 18 rfl rfl)
theorem dX1_execute_69 : decode cX1_execute 69 = .ok (.athrow, 1) := dk_191 (dk_at dksX1_execute_2 21 rfl rfl)
theorem dX1_execute_70 : decode cX1_execute 70 = .ok (.astore_n 2, 1) := dk_77 (dk_at dksX1_execute_2 22 rfl rfl)
theorem dX1_execute_71 : decode cX1_execute 71 = .ok (.aload_n 0, 1) := dk_42 (dk_at dksX1_execute_2 23 rfl rfl)
theorem dX1_execute_72 : decode cX1_execute 72 = .ok (.aload_n 2, 1) := dk_44 (dk_at dksX1_execute_3 0 rfl rfl)
theorem dX1_execute_73 : decode cX1_execute 73 = .ok (.putfield 161, 3) := dk_181 0 161 (dk_at dksX1_execute_3 1 rfl rfl)
theorem dX1_execute_76 : decode cX1_execute 76 = .ok (.new 165, 3) := dk_187 0 165 (dk_at dksX1_execute_3 4 rfl rfl)
theorem dX1_execute_79 : decode cX1_execute 79 = .ok (.dup, 1) := dk_89 (dk_at dksX1_execute_3 7 rfl rfl)
theorem dX1_execute_80 : decode cX1_execute 80 = .ok (.invokespecial 167, 3) := dk_183 0 167 (dk_at dksX1_execute_3 8 rfl rfl)
theorem dX1_execute_83 : decode cX1_execute 83 = .ok (.athrow, 1) := dk_191 (dk_at dksX1_execute_3 11 rfl rfl)
abbrev cX1_run : ByteArray := prog_1_method_19_code
def yX1_run : MethodName := ⟨RX1, "run", "(Ljava/util/ArrayList;LBenchBroker$Park;)I"⟩
def dkwX1_run_2 : List UInt8 := [28, 25, 5, 180, 0, 110, 183, 0, 113, 191, 132, 2, 1, 167, 255, 204, 28, 172]
abbrev dktX1_run_2 : List UInt8 := dkwX1_run_2 ++ []
def dkwX1_run_1 : List UInt8 := [192, 0, 104, 58, 4, 25, 4, 43, 182, 0, 106, 54, 5, 167, 0, 21, 58, 5, 187, 0, 25, 89, 16, 12]
abbrev dktX1_run_1 : List UInt8 := dkwX1_run_1 ++ dktX1_run_2
def dkwX1_run_0 : List UInt8 := [3, 61, 42, 182, 0, 88, 78, 45, 185, 0, 94, 1, 0, 153, 0, 49, 45, 185, 0, 100, 1, 0]
abbrev dktX1_run_0 : List UInt8 := dkwX1_run_0 ++ dktX1_run_1
theorem dksX1_run_0 : cX1_run.data.toList.drop 0 = dktX1_run_0 := by decide +kernel
theorem dksX1_run_1 : cX1_run.data.toList.drop 22 = dktX1_run_1 := dk_seg dksX1_run_0 22 rfl rfl
theorem dksX1_run_2 : cX1_run.data.toList.drop 46 = dktX1_run_2 := dk_seg dksX1_run_1 24 rfl rfl
theorem dX1_run_0 : decode cX1_run 0 = .ok (.iconst 0, 1) := dk_3 (dk_at dksX1_run_0 0 rfl rfl)
theorem dX1_run_1 : decode cX1_run 1 = .ok (.istore_n 2, 1) := dk_61 (dk_at dksX1_run_0 1 rfl rfl)
theorem dX1_run_2 : decode cX1_run 2 = .ok (.aload_n 0, 1) := dk_42 (dk_at dksX1_run_0 2 rfl rfl)
theorem dX1_run_3 : decode cX1_run 3 = .ok (.invokevirtual 88, 3) := dk_182 0 88 (dk_at dksX1_run_0 3 rfl rfl)
theorem dX1_run_6 : decode cX1_run 6 = .ok (.astore_n 3, 1) := dk_78 (dk_at dksX1_run_0 6 rfl rfl)
theorem dX1_run_7 : decode cX1_run 7 = .ok (.aload_n 3, 1) := dk_45 (dk_at dksX1_run_0 7 rfl rfl)
theorem dX1_run_8 : decode cX1_run 8 = .ok (.invokeinterface 94 1, 5) := by decide +kernel
theorem dX1_run_13 : decode cX1_run 13 = .ok (.ifCond .eq 49, 3) := dk_153 0 49 (dk_at dksX1_run_0 13 rfl rfl)
theorem dX1_run_16 : decode cX1_run 16 = .ok (.aload_n 3, 1) := dk_45 (dk_at dksX1_run_0 16 rfl rfl)
theorem dX1_run_17 : decode cX1_run 17 = .ok (.invokeinterface 100 1, 5) := by decide +kernel
theorem dX1_run_22 : decode cX1_run 22 = .ok (.checkcast 104, 3) := dk_192 0 104 (dk_at dksX1_run_1 0 rfl rfl)
theorem dX1_run_25 : decode cX1_run 25 = .ok (.astore 4, 2) := dk_58 4 (dk_at dksX1_run_1 3 rfl rfl)
theorem dX1_run_27 : decode cX1_run 27 = .ok (.aload 4, 2) := dk_25 4 (dk_at dksX1_run_1 5 rfl rfl)
theorem dX1_run_29 : decode cX1_run 29 = .ok (.aload_n 1, 1) := dk_43 (dk_at dksX1_run_1 7 rfl rfl)
theorem dX1_run_30 : decode cX1_run 30 = .ok (.invokevirtual 106, 3) := dk_182 0 106 (dk_at dksX1_run_1 8 rfl rfl)
theorem dX1_run_33 : decode cX1_run 33 = .ok (.istore 5, 2) := dk_54 5 (dk_at dksX1_run_1 11 rfl rfl)
theorem dX1_run_35 : decode cX1_run 35 = .ok (.goto 21, 3) := dk_167 0 21 (dk_at dksX1_run_1 13 rfl rfl)
theorem dX1_run_38 : decode cX1_run 38 = .ok (.astore 5, 2) := dk_58 5 (dk_at dksX1_run_1 16 rfl rfl)
theorem dX1_run_40 : decode cX1_run 40 = .ok (.new 25, 3) := dk_187 0 25 (dk_at dksX1_run_1 18 rfl rfl)
theorem dX1_run_43 : decode cX1_run 43 = .ok (.dup, 1) := dk_89 (dk_at dksX1_run_1 21 rfl rfl)
theorem dX1_run_44 : decode cX1_run 44 = .ok (.bipush 12, 2) := dk_16 12 (dk_at dksX1_run_1 22 rfl rfl)
theorem dX1_run_46 : decode cX1_run 46 = .ok (.iload_n 2, 1) := dk_28 (dk_at dksX1_run_2 0 rfl rfl)
theorem dX1_run_47 : decode cX1_run 47 = .ok (.aload 5, 2) := dk_25 5 (dk_at dksX1_run_2 1 rfl rfl)
theorem dX1_run_49 : decode cX1_run 49 = .ok (.getfield 110, 3) := dk_180 0 110 (dk_at dksX1_run_2 3 rfl rfl)
theorem dX1_run_52 : decode cX1_run 52 = .ok (.invokespecial 113, 3) := dk_183 0 113 (dk_at dksX1_run_2 6 rfl rfl)
theorem dX1_run_55 : decode cX1_run 55 = .ok (.athrow, 1) := dk_191 (dk_at dksX1_run_2 9 rfl rfl)
theorem dX1_run_56 : decode cX1_run 56 = .ok (.iinc 2 1, 3) := dk_132 2 1 (dk_at dksX1_run_2 10 rfl rfl)
theorem dX1_run_59 : decode cX1_run 59 = .ok (.goto (-52), 3) := dk_167 255 204 (dk_at dksX1_run_2 13 rfl rfl)
theorem dX1_run_62 : decode cX1_run 62 = .ok (.iload_n 2, 1) := dk_28 (dk_at dksX1_run_2 16 rfl rfl)
theorem dX1_run_63 : decode cX1_run 63 = .ok (.ireturn, 1) := dk_172 (dk_at dksX1_run_2 17 rfl rfl)
abbrev cX1_syntaxErrorOffset : ByteArray := prog_1_method_86_code
def yX1_syntaxErrorOffset : MethodName := ⟨RX1, "syntaxErrorOffset", "()I"⟩
def dkwX1_syntaxErrorOffset_0 : List UInt8 := [42, 180, 1, 173, 198, 0, 7, 4, 167, 0, 4, 3, 184, 0, 197, 42, 180, 1, 173, 180, 1, 179, 172]
abbrev dktX1_syntaxErrorOffset_0 : List UInt8 := dkwX1_syntaxErrorOffset_0 ++ []
theorem dksX1_syntaxErrorOffset_0 : cX1_syntaxErrorOffset.data.toList.drop 0 = dktX1_syntaxErrorOffset_0 := by decide +kernel
theorem dX1_syntaxErrorOffset_0 : decode cX1_syntaxErrorOffset 0 = .ok (.aload_n 0, 1) := dk_42 (dk_at dksX1_syntaxErrorOffset_0 0 rfl rfl)
theorem dX1_syntaxErrorOffset_1 : decode cX1_syntaxErrorOffset 1 = .ok (.getfield 429, 3) := dk_180 1 173 (dk_at dksX1_syntaxErrorOffset_0 1 rfl rfl)
theorem dX1_syntaxErrorOffset_4 : decode cX1_syntaxErrorOffset 4 = .ok (.ifnull 7, 3) := dk_198 0 7 (dk_at dksX1_syntaxErrorOffset_0 4 rfl rfl)
theorem dX1_syntaxErrorOffset_7 : decode cX1_syntaxErrorOffset 7 = .ok (.iconst 1, 1) := dk_4 (dk_at dksX1_syntaxErrorOffset_0 7 rfl rfl)
theorem dX1_syntaxErrorOffset_8 : decode cX1_syntaxErrorOffset 8 = .ok (.goto 4, 3) := dk_167 0 4 (dk_at dksX1_syntaxErrorOffset_0 8 rfl rfl)
theorem dX1_syntaxErrorOffset_11 : decode cX1_syntaxErrorOffset 11 = .ok (.iconst 0, 1) := dk_3 (dk_at dksX1_syntaxErrorOffset_0 11 rfl rfl)
theorem dX1_syntaxErrorOffset_12 : decode cX1_syntaxErrorOffset 12 = .ok (.invokestatic 197, 3) := dk_184 0 197 (dk_at dksX1_syntaxErrorOffset_0 12 rfl rfl)
theorem dX1_syntaxErrorOffset_15 : decode cX1_syntaxErrorOffset 15 = .ok (.aload_n 0, 1) := dk_42 (dk_at dksX1_syntaxErrorOffset_0 15 rfl rfl)
theorem dX1_syntaxErrorOffset_16 : decode cX1_syntaxErrorOffset 16 = .ok (.getfield 429, 3) := dk_180 1 173 (dk_at dksX1_syntaxErrorOffset_0 16 rfl rfl)
theorem dX1_syntaxErrorOffset_19 : decode cX1_syntaxErrorOffset 19 = .ok (.getfield 435, 3) := dk_180 1 179 (dk_at dksX1_syntaxErrorOffset_0 19 rfl rfl)
theorem dX1_syntaxErrorOffset_22 : decode cX1_syntaxErrorOffset 22 = .ok (.ireturn, 1) := dk_172 (dk_at dksX1_syntaxErrorOffset_0 22 rfl rfl)
abbrev cX1_rejectionReason : ByteArray := prog_1_method_87_code
def yX1_rejectionReason : MethodName := ⟨RX1, "rejectionReason", "()I"⟩
def dkwX1_rejectionReason_0 : List UInt8 := [42, 180, 0, 161, 198, 0, 7, 4, 167, 0, 4, 3, 184, 0, 197, 42, 180, 0, 161, 180, 0, 110, 172]
abbrev dktX1_rejectionReason_0 : List UInt8 := dkwX1_rejectionReason_0 ++ []
theorem dksX1_rejectionReason_0 : cX1_rejectionReason.data.toList.drop 0 = dktX1_rejectionReason_0 := by decide +kernel
theorem dX1_rejectionReason_0 : decode cX1_rejectionReason 0 = .ok (.aload_n 0, 1) := dk_42 (dk_at dksX1_rejectionReason_0 0 rfl rfl)
theorem dX1_rejectionReason_1 : decode cX1_rejectionReason 1 = .ok (.getfield 161, 3) := dk_180 0 161 (dk_at dksX1_rejectionReason_0 1 rfl rfl)
theorem dX1_rejectionReason_4 : decode cX1_rejectionReason 4 = .ok (.ifnull 7, 3) := dk_198 0 7 (dk_at dksX1_rejectionReason_0 4 rfl rfl)
theorem dX1_rejectionReason_7 : decode cX1_rejectionReason 7 = .ok (.iconst 1, 1) := dk_4 (dk_at dksX1_rejectionReason_0 7 rfl rfl)
theorem dX1_rejectionReason_8 : decode cX1_rejectionReason 8 = .ok (.goto 4, 3) := dk_167 0 4 (dk_at dksX1_rejectionReason_0 8 rfl rfl)
theorem dX1_rejectionReason_11 : decode cX1_rejectionReason 11 = .ok (.iconst 0, 1) := dk_3 (dk_at dksX1_rejectionReason_0 11 rfl rfl)
theorem dX1_rejectionReason_12 : decode cX1_rejectionReason 12 = .ok (.invokestatic 197, 3) := dk_184 0 197 (dk_at dksX1_rejectionReason_0 12 rfl rfl)
theorem dX1_rejectionReason_15 : decode cX1_rejectionReason 15 = .ok (.aload_n 0, 1) := dk_42 (dk_at dksX1_rejectionReason_0 15 rfl rfl)
theorem dX1_rejectionReason_16 : decode cX1_rejectionReason 16 = .ok (.getfield 161, 3) := dk_180 0 161 (dk_at dksX1_rejectionReason_0 16 rfl rfl)
theorem dX1_rejectionReason_19 : decode cX1_rejectionReason 19 = .ok (.getfield 110, 3) := dk_180 0 110 (dk_at dksX1_rejectionReason_0 19 rfl rfl)
theorem dX1_rejectionReason_22 : decode cX1_rejectionReason 22 = .ok (.ireturn, 1) := dk_172 (dk_at dksX1_rejectionReason_0 22 rfl rfl)
abbrev cX1_rejectionDetail : ByteArray := prog_1_method_88_code
def yX1_rejectionDetail : MethodName := ⟨RX1, "rejectionDetail", "()I"⟩
def dkwX1_rejectionDetail_0 : List UInt8 := [42, 180, 0, 161, 198, 0, 7, 4, 167, 0, 4, 3, 184, 0, 197, 42, 180, 0, 161, 180, 1, 182, 172]
abbrev dktX1_rejectionDetail_0 : List UInt8 := dkwX1_rejectionDetail_0 ++ []
theorem dksX1_rejectionDetail_0 : cX1_rejectionDetail.data.toList.drop 0 = dktX1_rejectionDetail_0 := by decide +kernel
theorem dX1_rejectionDetail_0 : decode cX1_rejectionDetail 0 = .ok (.aload_n 0, 1) := dk_42 (dk_at dksX1_rejectionDetail_0 0 rfl rfl)
theorem dX1_rejectionDetail_1 : decode cX1_rejectionDetail 1 = .ok (.getfield 161, 3) := dk_180 0 161 (dk_at dksX1_rejectionDetail_0 1 rfl rfl)
theorem dX1_rejectionDetail_4 : decode cX1_rejectionDetail 4 = .ok (.ifnull 7, 3) := dk_198 0 7 (dk_at dksX1_rejectionDetail_0 4 rfl rfl)
theorem dX1_rejectionDetail_7 : decode cX1_rejectionDetail 7 = .ok (.iconst 1, 1) := dk_4 (dk_at dksX1_rejectionDetail_0 7 rfl rfl)
theorem dX1_rejectionDetail_8 : decode cX1_rejectionDetail 8 = .ok (.goto 4, 3) := dk_167 0 4 (dk_at dksX1_rejectionDetail_0 8 rfl rfl)
theorem dX1_rejectionDetail_11 : decode cX1_rejectionDetail 11 = .ok (.iconst 0, 1) := dk_3 (dk_at dksX1_rejectionDetail_0 11 rfl rfl)
theorem dX1_rejectionDetail_12 : decode cX1_rejectionDetail 12 = .ok (.invokestatic 197, 3) := dk_184 0 197 (dk_at dksX1_rejectionDetail_0 12 rfl rfl)
theorem dX1_rejectionDetail_15 : decode cX1_rejectionDetail 15 = .ok (.aload_n 0, 1) := dk_42 (dk_at dksX1_rejectionDetail_0 15 rfl rfl)
theorem dX1_rejectionDetail_16 : decode cX1_rejectionDetail 16 = .ok (.getfield 161, 3) := dk_180 0 161 (dk_at dksX1_rejectionDetail_0 16 rfl rfl)
theorem dX1_rejectionDetail_19 : decode cX1_rejectionDetail 19 = .ok (.getfield 438, 3) := dk_180 1 182 (dk_at dksX1_rejectionDetail_0 19 rfl rfl)
theorem dX1_rejectionDetail_22 : decode cX1_rejectionDetail 22 = .ok (.ireturn, 1) := dk_172 (dk_at dksX1_rejectionDetail_0 22 rfl rfl)
abbrev cX1_causeReason : ByteArray := prog_1_method_89_code
def yX1_causeReason : MethodName := ⟨RX1, "causeReason", "()I"⟩
def dkwX1_causeReason_1 : List UInt8 := [184, 0, 197, 42, 180, 0, 161, 180, 1, 185, 172]
abbrev dktX1_causeReason_1 : List UInt8 := dkwX1_causeReason_1 ++ []
def dkwX1_causeReason_0 : List UInt8 := [42, 180, 0, 161, 198, 0, 17, 42, 180, 0, 161, 180, 1, 185, 153, 0, 7, 4, 167, 0, 4, 3]
abbrev dktX1_causeReason_0 : List UInt8 := dkwX1_causeReason_0 ++ dktX1_causeReason_1
theorem dksX1_causeReason_0 : cX1_causeReason.data.toList.drop 0 = dktX1_causeReason_0 := by decide +kernel
theorem dksX1_causeReason_1 : cX1_causeReason.data.toList.drop 22 = dktX1_causeReason_1 := dk_seg dksX1_causeReason_0 22 rfl rfl
theorem dX1_causeReason_0 : decode cX1_causeReason 0 = .ok (.aload_n 0, 1) := dk_42 (dk_at dksX1_causeReason_0 0 rfl rfl)
theorem dX1_causeReason_1 : decode cX1_causeReason 1 = .ok (.getfield 161, 3) := dk_180 0 161 (dk_at dksX1_causeReason_0 1 rfl rfl)
theorem dX1_causeReason_4 : decode cX1_causeReason 4 = .ok (.ifnull 17, 3) := dk_198 0 17 (dk_at dksX1_causeReason_0 4 rfl rfl)
theorem dX1_causeReason_7 : decode cX1_causeReason 7 = .ok (.aload_n 0, 1) := dk_42 (dk_at dksX1_causeReason_0 7 rfl rfl)
theorem dX1_causeReason_8 : decode cX1_causeReason 8 = .ok (.getfield 161, 3) := dk_180 0 161 (dk_at dksX1_causeReason_0 8 rfl rfl)
theorem dX1_causeReason_11 : decode cX1_causeReason 11 = .ok (.getfield 441, 3) := dk_180 1 185 (dk_at dksX1_causeReason_0 11 rfl rfl)
theorem dX1_causeReason_14 : decode cX1_causeReason 14 = .ok (.ifCond .eq 7, 3) := dk_153 0 7 (dk_at dksX1_causeReason_0 14 rfl rfl)
theorem dX1_causeReason_17 : decode cX1_causeReason 17 = .ok (.iconst 1, 1) := dk_4 (dk_at dksX1_causeReason_0 17 rfl rfl)
theorem dX1_causeReason_18 : decode cX1_causeReason 18 = .ok (.goto 4, 3) := dk_167 0 4 (dk_at dksX1_causeReason_0 18 rfl rfl)
theorem dX1_causeReason_21 : decode cX1_causeReason 21 = .ok (.iconst 0, 1) := dk_3 (dk_at dksX1_causeReason_0 21 rfl rfl)
theorem dX1_causeReason_22 : decode cX1_causeReason 22 = .ok (.invokestatic 197, 3) := dk_184 0 197 (dk_at dksX1_causeReason_1 0 rfl rfl)
theorem dX1_causeReason_25 : decode cX1_causeReason 25 = .ok (.aload_n 0, 1) := dk_42 (dk_at dksX1_causeReason_1 3 rfl rfl)
theorem dX1_causeReason_26 : decode cX1_causeReason 26 = .ok (.getfield 161, 3) := dk_180 0 161 (dk_at dksX1_causeReason_1 4 rfl rfl)
theorem dX1_causeReason_29 : decode cX1_causeReason 29 = .ok (.getfield 441, 3) := dk_180 1 185 (dk_at dksX1_causeReason_1 7 rfl rfl)
theorem dX1_causeReason_32 : decode cX1_causeReason 32 = .ok (.ireturn, 1) := dk_172 (dk_at dksX1_causeReason_1 10 rfl rfl)
abbrev cX1_undo : ByteArray := prog_1_method_90_code
def yX1_undo : MethodName := ⟨RX1, "undo", "()I"⟩
def dkwX1_undo_2 : List UInt8 := [172]
abbrev dktX1_undo_2 : List UInt8 := dkwX1_undo_2 ++ []
def dkwX1_undo_1 : List UInt8 := [180, 0, 125, 182, 0, 142, 4, 100, 182, 0, 143, 192, 0, 117, 181, 0, 120, 42, 180, 0, 125, 182, 0, 142]
abbrev dktX1_undo_1 : List UInt8 := dkwX1_undo_1 ++ dktX1_undo_2
def dkwX1_undo_0 : List UInt8 := [42, 180, 0, 125, 182, 0, 142, 158, 0, 7, 4, 167, 0, 4, 3, 184, 1, 152, 42, 42, 180, 0, 125, 42]
abbrev dktX1_undo_0 : List UInt8 := dkwX1_undo_0 ++ dktX1_undo_1
theorem dksX1_undo_0 : cX1_undo.data.toList.drop 0 = dktX1_undo_0 := by decide +kernel
theorem dksX1_undo_1 : cX1_undo.data.toList.drop 24 = dktX1_undo_1 := dk_seg dksX1_undo_0 24 rfl rfl
theorem dksX1_undo_2 : cX1_undo.data.toList.drop 48 = dktX1_undo_2 := dk_seg dksX1_undo_1 24 rfl rfl
theorem dX1_undo_0 : decode cX1_undo 0 = .ok (.aload_n 0, 1) := dk_42 (dk_at dksX1_undo_0 0 rfl rfl)
theorem dX1_undo_1 : decode cX1_undo 1 = .ok (.getfield 125, 3) := dk_180 0 125 (dk_at dksX1_undo_0 1 rfl rfl)
theorem dX1_undo_4 : decode cX1_undo 4 = .ok (.invokevirtual 142, 3) := dk_182 0 142 (dk_at dksX1_undo_0 4 rfl rfl)
theorem dX1_undo_7 : decode cX1_undo 7 = .ok (.ifCond .le 7, 3) := dk_158 0 7 (dk_at dksX1_undo_0 7 rfl rfl)
theorem dX1_undo_10 : decode cX1_undo 10 = .ok (.iconst 1, 1) := dk_4 (dk_at dksX1_undo_0 10 rfl rfl)
theorem dX1_undo_11 : decode cX1_undo 11 = .ok (.goto 4, 3) := dk_167 0 4 (dk_at dksX1_undo_0 11 rfl rfl)
theorem dX1_undo_14 : decode cX1_undo 14 = .ok (.iconst 0, 1) := dk_3 (dk_at dksX1_undo_0 14 rfl rfl)
theorem dX1_undo_15 : decode cX1_undo 15 = .ok (.invokestatic 408, 3) := dk_184 1 152 (dk_at dksX1_undo_0 15 rfl rfl)
theorem dX1_undo_18 : decode cX1_undo 18 = .ok (.aload_n 0, 1) := dk_42 (dk_at dksX1_undo_0 18 rfl rfl)
theorem dX1_undo_19 : decode cX1_undo 19 = .ok (.aload_n 0, 1) := dk_42 (dk_at dksX1_undo_0 19 rfl rfl)
theorem dX1_undo_20 : decode cX1_undo 20 = .ok (.getfield 125, 3) := dk_180 0 125 (dk_at dksX1_undo_0 20 rfl rfl)
theorem dX1_undo_23 : decode cX1_undo 23 = .ok (.aload_n 0, 1) := dk_42 (dk_at dksX1_undo_0 23 rfl rfl)
theorem dX1_undo_24 : decode cX1_undo 24 = .ok (.getfield 125, 3) := dk_180 0 125 (dk_at dksX1_undo_1 0 rfl rfl)
theorem dX1_undo_27 : decode cX1_undo 27 = .ok (.invokevirtual 142, 3) := dk_182 0 142 (dk_at dksX1_undo_1 3 rfl rfl)
theorem dX1_undo_30 : decode cX1_undo 30 = .ok (.iconst 1, 1) := dk_4 (dk_at dksX1_undo_1 6 rfl rfl)
theorem dX1_undo_31 : decode cX1_undo 31 = .ok (.isub, 1) := dk_100 (dk_at dksX1_undo_1 7 rfl rfl)
theorem dX1_undo_32 : decode cX1_undo 32 = .ok (.invokevirtual 143, 3) := dk_182 0 143 (dk_at dksX1_undo_1 8 rfl rfl)
theorem dX1_undo_35 : decode cX1_undo 35 = .ok (.checkcast 117, 3) := dk_192 0 117 (dk_at dksX1_undo_1 11 rfl rfl)
theorem dX1_undo_38 : decode cX1_undo 38 = .ok (.putfield 120, 3) := dk_181 0 120 (dk_at dksX1_undo_1 14 rfl rfl)
theorem dX1_undo_41 : decode cX1_undo 41 = .ok (.aload_n 0, 1) := dk_42 (dk_at dksX1_undo_1 17 rfl rfl)
theorem dX1_undo_42 : decode cX1_undo 42 = .ok (.getfield 125, 3) := dk_180 0 125 (dk_at dksX1_undo_1 18 rfl rfl)
theorem dX1_undo_45 : decode cX1_undo 45 = .ok (.invokevirtual 142, 3) := dk_182 0 142 (dk_at dksX1_undo_1 21 rfl rfl)
theorem dX1_undo_48 : decode cX1_undo 48 = .ok (.ireturn, 1) := dk_172 (dk_at dksX1_undo_2 0 rfl rfl)
abbrev cX1_restoreSnapshot : ByteArray := prog_1_method_92_code
def yX1_restoreSnapshot : MethodName := ⟨RX1, "restoreSnapshot", "()I"⟩
def dkwX1_restoreSnapshot_1 : List UInt8 := [181, 0, 120, 42, 180, 0, 125, 182, 1, 191, 42, 180, 0, 120, 180, 0, 168, 182, 0, 30, 172]
abbrev dktX1_restoreSnapshot_1 : List UInt8 := dkwX1_restoreSnapshot_1 ++ []
def dkwX1_restoreSnapshot_0 : List UInt8 := [42, 180, 1, 188, 198, 0, 7, 4, 167, 0, 4, 3, 184, 1, 152, 42, 42, 180, 1, 188, 182, 0, 150]
abbrev dktX1_restoreSnapshot_0 : List UInt8 := dkwX1_restoreSnapshot_0 ++ dktX1_restoreSnapshot_1
theorem dksX1_restoreSnapshot_0 : cX1_restoreSnapshot.data.toList.drop 0 = dktX1_restoreSnapshot_0 := by decide +kernel
theorem dksX1_restoreSnapshot_1 : cX1_restoreSnapshot.data.toList.drop 23 = dktX1_restoreSnapshot_1 := dk_seg dksX1_restoreSnapshot_0 23 rfl rfl
theorem dX1_restoreSnapshot_0 : decode cX1_restoreSnapshot 0 = .ok (.aload_n 0, 1) := dk_42 (dk_at dksX1_restoreSnapshot_0 0 rfl rfl)
theorem dX1_restoreSnapshot_1 : decode cX1_restoreSnapshot 1 = .ok (.getfield 444, 3) := dk_180 1 188 (dk_at dksX1_restoreSnapshot_0 1 rfl rfl)
theorem dX1_restoreSnapshot_4 : decode cX1_restoreSnapshot 4 = .ok (.ifnull 7, 3) := dk_198 0 7 (dk_at dksX1_restoreSnapshot_0 4 rfl rfl)
theorem dX1_restoreSnapshot_7 : decode cX1_restoreSnapshot 7 = .ok (.iconst 1, 1) := dk_4 (dk_at dksX1_restoreSnapshot_0 7 rfl rfl)
theorem dX1_restoreSnapshot_8 : decode cX1_restoreSnapshot 8 = .ok (.goto 4, 3) := dk_167 0 4 (dk_at dksX1_restoreSnapshot_0 8 rfl rfl)
theorem dX1_restoreSnapshot_11 : decode cX1_restoreSnapshot 11 = .ok (.iconst 0, 1) := dk_3 (dk_at dksX1_restoreSnapshot_0 11 rfl rfl)
theorem dX1_restoreSnapshot_12 : decode cX1_restoreSnapshot 12 = .ok (.invokestatic 408, 3) := dk_184 1 152 (dk_at dksX1_restoreSnapshot_0 12 rfl rfl)
theorem dX1_restoreSnapshot_15 : decode cX1_restoreSnapshot 15 = .ok (.aload_n 0, 1) := dk_42 (dk_at dksX1_restoreSnapshot_0 15 rfl rfl)
theorem dX1_restoreSnapshot_16 : decode cX1_restoreSnapshot 16 = .ok (.aload_n 0, 1) := dk_42 (dk_at dksX1_restoreSnapshot_0 16 rfl rfl)
theorem dX1_restoreSnapshot_17 : decode cX1_restoreSnapshot 17 = .ok (.getfield 444, 3) := dk_180 1 188 (dk_at dksX1_restoreSnapshot_0 17 rfl rfl)
theorem dX1_restoreSnapshot_20 : decode cX1_restoreSnapshot 20 = .ok (.invokevirtual 150, 3) := dk_182 0 150 (dk_at dksX1_restoreSnapshot_0 20 rfl rfl)
theorem dX1_restoreSnapshot_23 : decode cX1_restoreSnapshot 23 = .ok (.putfield 120, 3) := dk_181 0 120 (dk_at dksX1_restoreSnapshot_1 0 rfl rfl)
theorem dX1_restoreSnapshot_26 : decode cX1_restoreSnapshot 26 = .ok (.aload_n 0, 1) := dk_42 (dk_at dksX1_restoreSnapshot_1 3 rfl rfl)
theorem dX1_restoreSnapshot_27 : decode cX1_restoreSnapshot 27 = .ok (.getfield 125, 3) := dk_180 0 125 (dk_at dksX1_restoreSnapshot_1 4 rfl rfl)
theorem dX1_restoreSnapshot_30 : decode cX1_restoreSnapshot 30 = .ok (.invokevirtual 447, 3) := dk_182 1 191 (dk_at dksX1_restoreSnapshot_1 7 rfl rfl)
theorem dX1_restoreSnapshot_33 : decode cX1_restoreSnapshot 33 = .ok (.aload_n 0, 1) := dk_42 (dk_at dksX1_restoreSnapshot_1 10 rfl rfl)
theorem dX1_restoreSnapshot_34 : decode cX1_restoreSnapshot 34 = .ok (.getfield 120, 3) := dk_180 0 120 (dk_at dksX1_restoreSnapshot_1 11 rfl rfl)
theorem dX1_restoreSnapshot_37 : decode cX1_restoreSnapshot 37 = .ok (.getfield 168, 3) := dk_180 0 168 (dk_at dksX1_restoreSnapshot_1 14 rfl rfl)
theorem dX1_restoreSnapshot_40 : decode cX1_restoreSnapshot 40 = .ok (.invokevirtual 30, 3) := dk_182 0 30 (dk_at dksX1_restoreSnapshot_1 17 rfl rfl)
theorem dX1_restoreSnapshot_43 : decode cX1_restoreSnapshot 43 = .ok (.ireturn, 1) := dk_172 (dk_at dksX1_restoreSnapshot_1 20 rfl rfl)
theorem q86 : (Jvm.Cond.initialized "BenchBroker") ∈ lw_all := lw_g (lw_at lw_m1 1 rfl) rfl
theorem q134 : (Jvm.Cond.instantiable "BenchBroker" (7 : Nat)) ∈ lw_all := lw_g (lw_at lw_m1 49 rfl) rfl
theorem q136 : (Jvm.Cond.instanceMethod ({ cls := "BenchBroker", name := "<init>", desc := "()V" } : Jvm.MethodName)) ∈ lw_all := lw_g (lw_at lw_m1 51 rfl) rfl
theorem q137 : (Jvm.Cond.code ({ cls := "BenchBroker", name := "<init>", desc := "()V" } : Jvm.MethodName) prog_1_method_20_code (1 : Nat) (Option.none : Option Jvm.ClassFile.FieldType)) ∈ lw_all := lw_g (lw_at lw_m1 52 rfl) rfl
theorem q138 : (Jvm.Cond.methodLink "BenchBroker" (114 : Nat) ({ cls := "java/lang/Object", name := "<init>", desc := "()V" } : Jvm.MethodName)) ∈ lw_all := lw_g (lw_at lw_m1 53 rfl) rfl
theorem q141 : (Jvm.Cond.classLink "BenchBroker" (117 : Nat) "BenchBroker$Park") ∈ lw_all := lw_g (lw_at lw_m1 56 rfl) rfl
theorem q143 : (Jvm.Cond.methodLinkNest "BenchBroker" (119 : Nat) ({ cls := "BenchBroker$Park", name := "<init>", desc := "()V" } : Jvm.MethodName) "BenchBroker") ∈ lw_tbl := lw_at lw_m1 58 rfl
theorem q188 : (Jvm.Cond.fieldLinkNest "BenchBroker" (168 : Nat) "BenchBroker$Park" "benches" "LBenchBroker$Register;" "BenchBroker") ∈ lw_tbl := lw_at lw_m1 103 rfl
theorem q191 : (Jvm.Cond.fieldLinkNest "BenchBroker" (180 : Nat) "BenchBroker$Park" "fountains" "LBenchBroker$Register;" "BenchBroker") ∈ lw_tbl := lw_at lw_m1 106 rfl
theorem q195 : (Jvm.Cond.fieldLinkNest "BenchBroker" (185 : Nat) "BenchBroker$Park" "tenants" "LBenchBroker$Register;" "BenchBroker") ∈ lw_tbl := lw_at lw_m1 110 rfl
theorem q197 : (Jvm.Cond.fieldLinkNest "BenchBroker" (260 : Nat) "BenchBroker$Park" "noiseLimit" "I" "BenchBroker") ∈ lw_tbl := lw_at lw_m1 112 rfl
theorem q199 : (Jvm.Cond.fieldLinkNest "BenchBroker" (325 : Nat) "BenchBroker$Park" "month" "I" "BenchBroker") ∈ lw_tbl := lw_at lw_m1 114 rfl
theorem q201 : (Jvm.Cond.fieldLinkNest "BenchBroker" (334 : Nat) "BenchBroker$Park" "brokerCoins" "I" "BenchBroker") ∈ lw_tbl := lw_at lw_m1 116 rfl
theorem q203 : (Jvm.Cond.fieldLinkNest "BenchBroker" (343 : Nat) "BenchBroker$Park" "given" "I" "BenchBroker") ∈ lw_tbl := lw_at lw_m1 118 rfl
theorem q205 : (Jvm.Cond.fieldLinkNest "BenchBroker" (346 : Nat) "BenchBroker$Park" "defaulted" "I" "BenchBroker") ∈ lw_tbl := lw_at lw_m1 120 rfl
theorem q207 : (Jvm.Cond.fieldLinkNest "BenchBroker" (349 : Nat) "BenchBroker$Park" "terminated" "I" "BenchBroker") ∈ lw_tbl := lw_at lw_m1 122 rfl
theorem q209 : (Jvm.Cond.fieldLinkNest "BenchBroker" (352 : Nat) "BenchBroker$Park" "completed" "I" "BenchBroker") ∈ lw_tbl := lw_at lw_m1 124 rfl
theorem q231 : (Jvm.Cond.classLink "BenchBroker" (89 : Nat) "java/util/ArrayList") ∈ lw_all := lw_g (lw_at lw_m1 146 rfl) rfl
theorem q232 : (Jvm.Cond.methodLink "BenchBroker" (124 : Nat) ({ cls := "java/util/ArrayList", name := "<init>", desc := "()V" } : Jvm.MethodName)) ∈ lw_all := lw_g (lw_at lw_m1 147 rfl) rfl
theorem q233 : (Jvm.Cond.classLink "BenchBroker" (129 : Nat) "java/lang/StringBuilder") ∈ lw_all := lw_g (lw_at lw_m1 148 rfl) rfl
theorem q235 : (Jvm.Cond.methodLink "BenchBroker" (131 : Nat) ({ cls := "java/lang/StringBuilder", name := "<init>", desc := "()V" } : Jvm.MethodName)) ∈ lw_all := lw_g (lw_at lw_m1 150 rfl) rfl
theorem q266 : (Jvm.Cond.stringRef "BenchBroker" (136 : Nat) "") ∈ lw_tbl := lw_at lw_m1 181 rfl
theorem q267 : (Jvm.Cond.fieldLink "BenchBroker" (120 : Nat) "BenchBroker" "park" "LBenchBroker$Park;") ∈ lw_all := lw_g (lw_at lw_m1 182 rfl) rfl
theorem q268 : (Jvm.Cond.fieldLink "BenchBroker" (444 : Nat) "BenchBroker" "snapshot" "LBenchBroker$Park;") ∈ lw_all := lw_g (lw_at lw_m1 183 rfl) rfl
theorem q269 : (Jvm.Cond.fieldLink "BenchBroker" (125 : Nat) "BenchBroker" "history" "Ljava/util/ArrayList;") ∈ lw_all := lw_g (lw_at lw_m1 184 rfl) rfl
theorem q270 : (Jvm.Cond.fieldLink "BenchBroker" (132 : Nat) "BenchBroker" "input" "Ljava/lang/StringBuilder;") ∈ lw_all := lw_g (lw_at lw_m1 185 rfl) rfl
theorem q271 : (Jvm.Cond.fieldLink "BenchBroker" (138 : Nat) "BenchBroker" "output" "Ljava/lang/String;") ∈ lw_all := lw_g (lw_at lw_m1 186 rfl) rfl
theorem q272 : (Jvm.Cond.fieldLink "BenchBroker" (429 : Nat) "BenchBroker" "syntaxError" "LBenchBroker$SyntaxError;") ∈ lw_all := lw_g (lw_at lw_m1 187 rfl) rfl
theorem q273 : (Jvm.Cond.fieldLink "BenchBroker" (161 : Nat) "BenchBroker" "rejection" "LBenchBroker$Rejection;") ∈ lw_all := lw_g (lw_at lw_m1 188 rfl) rfl
theorem q274 : (Jvm.Cond.lays "BenchBroker" "BenchBroker" "park" "LBenchBroker$Park;") ∈ lw_all := lw_g (lw_at lw_m1 189 rfl) rfl
theorem q275 : (Jvm.Cond.soleField "BenchBroker" "park") ∈ lw_all := lw_g (lw_at lw_m1 190 rfl) rfl
theorem q276 : (Jvm.Cond.lays "BenchBroker" "BenchBroker" "snapshot" "LBenchBroker$Park;") ∈ lw_all := lw_g (lw_at lw_m1 191 rfl) rfl
theorem q277 : (Jvm.Cond.soleField "BenchBroker" "snapshot") ∈ lw_all := lw_g (lw_at lw_m1 192 rfl) rfl
theorem q278 : (Jvm.Cond.laysFinal "BenchBroker" "BenchBroker" "history" "Ljava/util/ArrayList;") ∈ lw_all := lw_g (lw_at lw_m1 193 rfl) rfl
theorem q279 : (Jvm.Cond.soleField "BenchBroker" "history") ∈ lw_all := lw_g (lw_at lw_m1 194 rfl) rfl
theorem q280 : (Jvm.Cond.laysFinal "BenchBroker" "BenchBroker" "input" "Ljava/lang/StringBuilder;") ∈ lw_all := lw_g (lw_at lw_m1 195 rfl) rfl
theorem q281 : (Jvm.Cond.soleField "BenchBroker" "input") ∈ lw_all := lw_g (lw_at lw_m1 196 rfl) rfl
theorem q282 : (Jvm.Cond.lays "BenchBroker" "BenchBroker" "output" "Ljava/lang/String;") ∈ lw_all := lw_g (lw_at lw_m1 197 rfl) rfl
theorem q283 : (Jvm.Cond.soleField "BenchBroker" "output") ∈ lw_all := lw_g (lw_at lw_m1 198 rfl) rfl
theorem q284 : (Jvm.Cond.lays "BenchBroker" "BenchBroker" "syntaxError" "LBenchBroker$SyntaxError;") ∈ lw_all := lw_g (lw_at lw_m1 199 rfl) rfl
theorem q285 : (Jvm.Cond.soleField "BenchBroker" "syntaxError") ∈ lw_all := lw_g (lw_at lw_m1 200 rfl) rfl
theorem q286 : (Jvm.Cond.lays "BenchBroker" "BenchBroker" "rejection" "LBenchBroker$Rejection;") ∈ lw_all := lw_g (lw_at lw_m1 201 rfl) rfl
theorem q287 : (Jvm.Cond.soleField "BenchBroker" "rejection") ∈ lw_all := lw_g (lw_at lw_m1 202 rfl) rfl
theorem q288 : (Jvm.Cond.superclass "BenchBroker" "java/lang/Object") ∈ lw_all := lw_g (lw_at lw_m1 203 rfl) rfl
theorem q290 : (Jvm.Cond.instanceMethod ({ cls := "BenchBroker", name := "benchCount", desc := "()I" } : Jvm.MethodName)) ∈ lw_all := lw_g (lw_at lw_m1 205 rfl) rfl
theorem q291 : (Jvm.Cond.selects "BenchBroker" ({ cls := "BenchBroker", name := "benchCount", desc := "()I" } : Jvm.MethodName) ({ cls := "BenchBroker", name := "benchCount", desc := "()I" } : Jvm.MethodName)) ∈ lw_all := lw_g (lw_at lw_m1 206 rfl) rfl
theorem q292 : (Jvm.Cond.code ({ cls := "BenchBroker", name := "benchCount", desc := "()I" } : Jvm.MethodName) prog_1_method_35_code (1 : Nat) (Option.some Jvm.ClassFile.FieldType.int)) ∈ lw_all := lw_g (lw_at lw_m1 207 rfl) rfl
theorem q293 : (Jvm.Cond.methodLink "BenchBroker" (30 : Nat) ({ cls := "BenchBroker$Register", name := "size", desc := "()I" } : Jvm.MethodName)) ∈ lw_all := lw_g (lw_at lw_m1 208 rfl) rfl
theorem q302 : (Jvm.Cond.instanceMethod ({ cls := "BenchBroker", name := "fountainCount", desc := "()I" } : Jvm.MethodName)) ∈ lw_all := lw_g (lw_at lw_m1 217 rfl) rfl
theorem q303 : (Jvm.Cond.selects "BenchBroker" ({ cls := "BenchBroker", name := "fountainCount", desc := "()I" } : Jvm.MethodName) ({ cls := "BenchBroker", name := "fountainCount", desc := "()I" } : Jvm.MethodName)) ∈ lw_all := lw_g (lw_at lw_m1 218 rfl) rfl
theorem q304 : (Jvm.Cond.code ({ cls := "BenchBroker", name := "fountainCount", desc := "()I" } : Jvm.MethodName) prog_1_method_40_code (1 : Nat) (Option.some Jvm.ClassFile.FieldType.int)) ∈ lw_all := lw_g (lw_at lw_m1 219 rfl) rfl
theorem q306 : (Jvm.Cond.instanceMethod ({ cls := "BenchBroker", name := "noiseLimit", desc := "()I" } : Jvm.MethodName)) ∈ lw_all := lw_g (lw_at lw_m1 221 rfl) rfl
theorem q307 : (Jvm.Cond.selects "BenchBroker" ({ cls := "BenchBroker", name := "noiseLimit", desc := "()I" } : Jvm.MethodName) ({ cls := "BenchBroker", name := "noiseLimit", desc := "()I" } : Jvm.MethodName)) ∈ lw_all := lw_g (lw_at lw_m1 222 rfl) rfl
theorem q308 : (Jvm.Cond.code ({ cls := "BenchBroker", name := "noiseLimit", desc := "()I" } : Jvm.MethodName) prog_1_method_43_code (1 : Nat) (Option.some Jvm.ClassFile.FieldType.int)) ∈ lw_all := lw_g (lw_at lw_m1 223 rfl) rfl
theorem q310 : (Jvm.Cond.instanceMethod ({ cls := "BenchBroker", name := "quietCount", desc := "()I" } : Jvm.MethodName)) ∈ lw_all := lw_g (lw_at lw_m1 225 rfl) rfl
theorem q311 : (Jvm.Cond.selects "BenchBroker" ({ cls := "BenchBroker", name := "quietCount", desc := "()I" } : Jvm.MethodName) ({ cls := "BenchBroker", name := "quietCount", desc := "()I" } : Jvm.MethodName)) ∈ lw_all := lw_g (lw_at lw_m1 226 rfl) rfl
theorem q312 : (Jvm.Cond.code ({ cls := "BenchBroker", name := "quietCount", desc := "()I" } : Jvm.MethodName) prog_1_method_47_code (1 : Nat) (Option.some Jvm.ClassFile.FieldType.int)) ∈ lw_all := lw_g (lw_at lw_m1 227 rfl) rfl
theorem q313 : (Jvm.Cond.methodLink "BenchBroker" (273 : Nat) ({ cls := "BenchBroker$Park", name := "quietCount", desc := "()I" } : Jvm.MethodName)) ∈ lw_all := lw_g (lw_at lw_m1 228 rfl) rfl
theorem q386 : (Jvm.Cond.static ({ cls := "BenchBroker", name := "asInt", desc := "(Z)I" } : Jvm.MethodName)) ∈ lw_all := lw_g (lw_at lw_m2 61 rfl) rfl
theorem q387 : (Jvm.Cond.code ({ cls := "BenchBroker", name := "asInt", desc := "(Z)I" } : Jvm.MethodName) prog_1_method_9_code (1 : Nat) (Option.some Jvm.ClassFile.FieldType.int)) ∈ lw_all := lw_g (lw_at lw_m2 62 rfl) rfl
theorem q389 : (Jvm.Cond.instanceMethod ({ cls := "BenchBroker", name := "tenantCount", desc := "()I" } : Jvm.MethodName)) ∈ lw_all := lw_g (lw_at lw_m2 64 rfl) rfl
theorem q390 : (Jvm.Cond.selects "BenchBroker" ({ cls := "BenchBroker", name := "tenantCount", desc := "()I" } : Jvm.MethodName) ({ cls := "BenchBroker", name := "tenantCount", desc := "()I" } : Jvm.MethodName)) ∈ lw_all := lw_g (lw_at lw_m2 65 rfl) rfl
theorem q391 : (Jvm.Cond.code ({ cls := "BenchBroker", name := "tenantCount", desc := "()I" } : Jvm.MethodName) prog_1_method_50_code (1 : Nat) (Option.some Jvm.ClassFile.FieldType.int)) ∈ lw_all := lw_g (lw_at lw_m2 66 rfl) rfl
theorem q393 : (Jvm.Cond.instanceMethod ({ cls := "BenchBroker", name := "month", desc := "()I" } : Jvm.MethodName)) ∈ lw_all := lw_g (lw_at lw_m2 68 rfl) rfl
theorem q394 : (Jvm.Cond.selects "BenchBroker" ({ cls := "BenchBroker", name := "month", desc := "()I" } : Jvm.MethodName) ({ cls := "BenchBroker", name := "month", desc := "()I" } : Jvm.MethodName)) ∈ lw_all := lw_g (lw_at lw_m2 69 rfl) rfl
theorem q395 : (Jvm.Cond.code ({ cls := "BenchBroker", name := "month", desc := "()I" } : Jvm.MethodName) prog_1_method_65_code (1 : Nat) (Option.some Jvm.ClassFile.FieldType.int)) ∈ lw_all := lw_g (lw_at lw_m2 70 rfl) rfl
theorem q397 : (Jvm.Cond.instanceMethod ({ cls := "BenchBroker", name := "brokerCoins", desc := "()I" } : Jvm.MethodName)) ∈ lw_all := lw_g (lw_at lw_m2 72 rfl) rfl
theorem q398 : (Jvm.Cond.selects "BenchBroker" ({ cls := "BenchBroker", name := "brokerCoins", desc := "()I" } : Jvm.MethodName) ({ cls := "BenchBroker", name := "brokerCoins", desc := "()I" } : Jvm.MethodName)) ∈ lw_all := lw_g (lw_at lw_m2 73 rfl) rfl
theorem q399 : (Jvm.Cond.code ({ cls := "BenchBroker", name := "brokerCoins", desc := "()I" } : Jvm.MethodName) prog_1_method_68_code (1 : Nat) (Option.some Jvm.ClassFile.FieldType.int)) ∈ lw_all := lw_g (lw_at lw_m2 74 rfl) rfl
theorem q401 : (Jvm.Cond.instanceMethod ({ cls := "BenchBroker", name := "depositTotal", desc := "()I" } : Jvm.MethodName)) ∈ lw_all := lw_g (lw_at lw_m2 76 rfl) rfl
theorem q402 : (Jvm.Cond.selects "BenchBroker" ({ cls := "BenchBroker", name := "depositTotal", desc := "()I" } : Jvm.MethodName) ({ cls := "BenchBroker", name := "depositTotal", desc := "()I" } : Jvm.MethodName)) ∈ lw_all := lw_g (lw_at lw_m2 77 rfl) rfl
theorem q403 : (Jvm.Cond.code ({ cls := "BenchBroker", name := "depositTotal", desc := "()I" } : Jvm.MethodName) prog_1_method_69_code (1 : Nat) (Option.some Jvm.ClassFile.FieldType.int)) ∈ lw_all := lw_g (lw_at lw_m2 78 rfl) rfl
theorem q404 : (Jvm.Cond.methodLink "BenchBroker" (337 : Nat) ({ cls := "BenchBroker$Park", name := "depositTotal", desc := "()I" } : Jvm.MethodName)) ∈ lw_all := lw_g (lw_at lw_m2 79 rfl) rfl
theorem q411 : (Jvm.Cond.instanceMethod ({ cls := "BenchBroker", name := "allCoins", desc := "()I" } : Jvm.MethodName)) ∈ lw_all := lw_g (lw_at lw_m2 86 rfl) rfl
theorem q412 : (Jvm.Cond.selects "BenchBroker" ({ cls := "BenchBroker", name := "allCoins", desc := "()I" } : Jvm.MethodName) ({ cls := "BenchBroker", name := "allCoins", desc := "()I" } : Jvm.MethodName)) ∈ lw_all := lw_g (lw_at lw_m2 87 rfl) rfl
theorem q413 : (Jvm.Cond.code ({ cls := "BenchBroker", name := "allCoins", desc := "()I" } : Jvm.MethodName) prog_1_method_70_code (1 : Nat) (Option.some Jvm.ClassFile.FieldType.int)) ∈ lw_all := lw_g (lw_at lw_m2 88 rfl) rfl
theorem q414 : (Jvm.Cond.methodLink "BenchBroker" (340 : Nat) ({ cls := "BenchBroker$Park", name := "allCoins", desc := "()I" } : Jvm.MethodName)) ∈ lw_all := lw_g (lw_at lw_m2 89 rfl) rfl
theorem q422 : (Jvm.Cond.instanceMethod ({ cls := "BenchBroker", name := "allCoinsGiven", desc := "()I" } : Jvm.MethodName)) ∈ lw_all := lw_g (lw_at lw_m2 97 rfl) rfl
theorem q423 : (Jvm.Cond.selects "BenchBroker" ({ cls := "BenchBroker", name := "allCoinsGiven", desc := "()I" } : Jvm.MethodName) ({ cls := "BenchBroker", name := "allCoinsGiven", desc := "()I" } : Jvm.MethodName)) ∈ lw_all := lw_g (lw_at lw_m2 98 rfl) rfl
theorem q424 : (Jvm.Cond.code ({ cls := "BenchBroker", name := "allCoinsGiven", desc := "()I" } : Jvm.MethodName) prog_1_method_71_code (1 : Nat) (Option.some Jvm.ClassFile.FieldType.int)) ∈ lw_all := lw_g (lw_at lw_m2 99 rfl) rfl
theorem q426 : (Jvm.Cond.instanceMethod ({ cls := "BenchBroker", name := "defaultedLeases", desc := "()I" } : Jvm.MethodName)) ∈ lw_all := lw_g (lw_at lw_m2 101 rfl) rfl
theorem q427 : (Jvm.Cond.selects "BenchBroker" ({ cls := "BenchBroker", name := "defaultedLeases", desc := "()I" } : Jvm.MethodName) ({ cls := "BenchBroker", name := "defaultedLeases", desc := "()I" } : Jvm.MethodName)) ∈ lw_all := lw_g (lw_at lw_m2 102 rfl) rfl
theorem q428 : (Jvm.Cond.code ({ cls := "BenchBroker", name := "defaultedLeases", desc := "()I" } : Jvm.MethodName) prog_1_method_72_code (1 : Nat) (Option.some Jvm.ClassFile.FieldType.int)) ∈ lw_all := lw_g (lw_at lw_m2 103 rfl) rfl
theorem q430 : (Jvm.Cond.instanceMethod ({ cls := "BenchBroker", name := "terminatedLeases", desc := "()I" } : Jvm.MethodName)) ∈ lw_all := lw_g (lw_at lw_m2 105 rfl) rfl
theorem q431 : (Jvm.Cond.selects "BenchBroker" ({ cls := "BenchBroker", name := "terminatedLeases", desc := "()I" } : Jvm.MethodName) ({ cls := "BenchBroker", name := "terminatedLeases", desc := "()I" } : Jvm.MethodName)) ∈ lw_all := lw_g (lw_at lw_m2 106 rfl) rfl
theorem q432 : (Jvm.Cond.code ({ cls := "BenchBroker", name := "terminatedLeases", desc := "()I" } : Jvm.MethodName) prog_1_method_73_code (1 : Nat) (Option.some Jvm.ClassFile.FieldType.int)) ∈ lw_all := lw_g (lw_at lw_m2 107 rfl) rfl
theorem q434 : (Jvm.Cond.instanceMethod ({ cls := "BenchBroker", name := "completedLeases", desc := "()I" } : Jvm.MethodName)) ∈ lw_all := lw_g (lw_at lw_m2 109 rfl) rfl
theorem q435 : (Jvm.Cond.selects "BenchBroker" ({ cls := "BenchBroker", name := "completedLeases", desc := "()I" } : Jvm.MethodName) ({ cls := "BenchBroker", name := "completedLeases", desc := "()I" } : Jvm.MethodName)) ∈ lw_all := lw_g (lw_at lw_m2 110 rfl) rfl
theorem q436 : (Jvm.Cond.code ({ cls := "BenchBroker", name := "completedLeases", desc := "()I" } : Jvm.MethodName) prog_1_method_74_code (1 : Nat) (Option.some Jvm.ClassFile.FieldType.int)) ∈ lw_all := lw_g (lw_at lw_m2 111 rfl) rfl
theorem q438 : (Jvm.Cond.instanceMethod ({ cls := "BenchBroker", name := "isConsistent", desc := "()Z" } : Jvm.MethodName)) ∈ lw_all := lw_g (lw_at lw_m2 113 rfl) rfl
theorem q439 : (Jvm.Cond.selects "BenchBroker" ({ cls := "BenchBroker", name := "isConsistent", desc := "()Z" } : Jvm.MethodName) ({ cls := "BenchBroker", name := "isConsistent", desc := "()Z" } : Jvm.MethodName)) ∈ lw_all := lw_g (lw_at lw_m2 114 rfl) rfl
theorem q440 : (Jvm.Cond.code ({ cls := "BenchBroker", name := "isConsistent", desc := "()Z" } : Jvm.MethodName) prog_1_method_79_code (1 : Nat) (Option.some Jvm.ClassFile.FieldType.boolean)) ∈ lw_all := lw_g (lw_at lw_m2 115 rfl) rfl
theorem q441 : (Jvm.Cond.methodLink "BenchBroker" (373 : Nat) ({ cls := "BenchBroker$Park", name := "isConsistent", desc := "()Z" } : Jvm.MethodName)) ∈ lw_all := lw_g (lw_at lw_m2 116 rfl) rfl
theorem q606 : (Jvm.Cond.selects "BenchBroker" ({ cls := "java/lang/Object", name := "getClass", desc := "()Ljava/lang/Class;" } : Jvm.MethodName) ({ cls := "java/lang/Object", name := "getClass", desc := "()Ljava/lang/Class;" } : Jvm.MethodName)) ∈ lw_all := lw_g (lw_at lw_m3 41 rfl) rfl
theorem q707 : (Jvm.Cond.static ({ cls := "BenchBroker", name := "isBetween", desc := "(III)Z" } : Jvm.MethodName)) ∈ lw_all := lw_g (lw_at lw_m3 142 rfl) rfl
theorem q708 : (Jvm.Cond.code ({ cls := "BenchBroker", name := "isBetween", desc := "(III)Z" } : Jvm.MethodName) prog_1_method_1_code (3 : Nat) (Option.some Jvm.ClassFile.FieldType.boolean)) ∈ lw_all := lw_g (lw_at lw_m3 143 rfl) rfl
theorem q745 : (Jvm.Cond.fieldLinkNest "BenchBroker" (253 : Nat) "BenchBroker$Fountain" "loudness" "I" "BenchBroker") ∈ lw_tbl := lw_at lw_m3 180 rfl
theorem q748 : (Jvm.Cond.fieldLinkNest "BenchBroker" (256 : Nat) "BenchBroker$Fountain" "running" "Z" "BenchBroker") ∈ lw_tbl := lw_at lw_m3 183 rfl
theorem q796 : (Jvm.Cond.static ({ cls := "BenchBroker", name := "copyBench", desc := "(LBenchBroker$Bench;LBenchBroker$Register;)V" } : Jvm.MethodName)) ∈ lw_all := lw_g (lw_at lw_m3 231 rfl) rfl
theorem q797 : (Jvm.Cond.code ({ cls := "BenchBroker", name := "copyBench", desc := "(LBenchBroker$Bench;LBenchBroker$Register;)V" } : Jvm.MethodName) prog_1_method_18_code (3 : Nat) (Option.none : Option Jvm.ClassFile.FieldType)) ∈ lw_all := lw_g (lw_at lw_m3 232 rfl) rfl
theorem q798 : (Jvm.Cond.classLink "BenchBroker" (62 : Nat) "BenchBroker$Bench") ∈ lw_all := lw_g (lw_at lw_m3 233 rfl) rfl
theorem q800 : (Jvm.Cond.methodLink "BenchBroker" (64 : Nat) ({ cls := "BenchBroker$Bench", name := "index", desc := "()I" } : Jvm.MethodName)) ∈ lw_all := lw_g (lw_at lw_m3 235 rfl) rfl
theorem q806 : (Jvm.Cond.methodLink "BenchBroker" (65 : Nat) ({ cls := "BenchBroker$Bench", name := "row", desc := "()I" } : Jvm.MethodName)) ∈ lw_all := lw_g (lw_at lw_m4 1 rfl) rfl
theorem q807 : (Jvm.Cond.methodLink "BenchBroker" (68 : Nat) ({ cls := "BenchBroker$Bench", name := "column", desc := "()I" } : Jvm.MethodName)) ∈ lw_all := lw_g (lw_at lw_m4 2 rfl) rfl
theorem q808 : (Jvm.Cond.methodLink "BenchBroker" (71 : Nat) ({ cls := "BenchBroker$Bench", name := "<init>", desc := "(III)V" } : Jvm.MethodName)) ∈ lw_all := lw_g (lw_at lw_m4 3 rfl) rfl
theorem q813 : (Jvm.Cond.fieldLinkNest "BenchBroker" (74 : Nat) "BenchBroker$Bench" "baseRent" "I" "BenchBroker") ∈ lw_tbl := lw_at lw_m4 8 rfl
theorem q816 : (Jvm.Cond.fieldLinkNest "BenchBroker" (317 : Nat) "BenchBroker$Bench" "tenant" "LBenchBroker$Tenant;" "BenchBroker") ∈ lw_tbl := lw_at lw_m4 11 rfl
theorem q818 : (Jvm.Cond.fieldLinkNest "BenchBroker" (78 : Nat) "BenchBroker$Bench" "deposit" "I" "BenchBroker") ∈ lw_tbl := lw_at lw_m4 13 rfl
theorem q821 : (Jvm.Cond.fieldLinkNest "BenchBroker" (81 : Nat) "BenchBroker$Bench" "monthsLeft" "I" "BenchBroker") ∈ lw_tbl := lw_at lw_m4 16 rfl
theorem q835 : (Jvm.Cond.methodLink "BenchBroker" (84 : Nat) ({ cls := "BenchBroker$Register", name := "add", desc := "(LBenchBroker$Item;)V" } : Jvm.MethodName)) ∈ lw_all := lw_g (lw_at lw_m4 30 rfl) rfl
theorem q844 : (Jvm.Cond.fieldLinkNest "BenchBroker" (286 : Nat) "BenchBroker$Tenant" "coins" "I" "BenchBroker") ∈ lw_tbl := lw_at lw_m4 39 rfl
theorem q847 : (Jvm.Cond.fieldLinkNest "BenchBroker" (289 : Nat) "BenchBroker$Tenant" "defaults" "I" "BenchBroker") ∈ lw_tbl := lw_at lw_m4 42 rfl
theorem q850 : (Jvm.Cond.fieldLinkNest "BenchBroker" (292 : Nat) "BenchBroker$Tenant" "bench" "LBenchBroker$Bench;" "BenchBroker") ∈ lw_tbl := lw_at lw_m4 45 rfl
theorem q898 : (Jvm.Cond.instanceMethod ({ cls := "BenchBroker", name := "saveSnapshot", desc := "()I" } : Jvm.MethodName)) ∈ lw_all := lw_g (lw_at lw_m4 93 rfl) rfl
theorem q899 : (Jvm.Cond.selects "BenchBroker" ({ cls := "BenchBroker", name := "saveSnapshot", desc := "()I" } : Jvm.MethodName) ({ cls := "BenchBroker", name := "saveSnapshot", desc := "()I" } : Jvm.MethodName)) ∈ lw_all := lw_g (lw_at lw_m4 94 rfl) rfl
theorem q900 : (Jvm.Cond.code ({ cls := "BenchBroker", name := "saveSnapshot", desc := "()I" } : Jvm.MethodName) prog_1_method_91_code (1 : Nat) (Option.some Jvm.ClassFile.FieldType.int)) ∈ lw_all := lw_g (lw_at lw_m4 95 rfl) rfl
theorem q901 : (Jvm.Cond.methodLink "BenchBroker" (150 : Nat) ({ cls := "BenchBroker$Park", name := "copy", desc := "()LBenchBroker$Park;" } : Jvm.MethodName)) ∈ lw_all := lw_g (lw_at lw_m4 96 rfl) rfl
theorem q932 : (Jvm.Cond.instanceMethod ({ cls := "BenchBroker", name := "addBench", desc := "(III)I" } : Jvm.MethodName)) ∈ lw_all := lw_g (lw_at lw_m4 127 rfl) rfl
theorem q933 : (Jvm.Cond.selects "BenchBroker" ({ cls := "BenchBroker", name := "addBench", desc := "(III)I" } : Jvm.MethodName) ({ cls := "BenchBroker", name := "addBench", desc := "(III)I" } : Jvm.MethodName)) ∈ lw_all := lw_g (lw_at lw_m4 128 rfl) rfl
theorem q934 : (Jvm.Cond.code ({ cls := "BenchBroker", name := "addBench", desc := "(III)I" } : Jvm.MethodName) prog_1_method_29_code (4 : Nat) (Option.some Jvm.ClassFile.FieldType.int)) ∈ lw_all := lw_g (lw_at lw_m4 129 rfl) rfl
theorem q935 : (Jvm.Cond.methodLink "BenchBroker" (209 : Nat) ({ cls := "BenchBroker", name := "isCell", desc := "(II)Z" } : Jvm.MethodName)) ∈ lw_all := lw_g (lw_at lw_m4 130 rfl) rfl
theorem q936 : (Jvm.Cond.static ({ cls := "BenchBroker", name := "isCell", desc := "(II)Z" } : Jvm.MethodName)) ∈ lw_all := lw_g (lw_at lw_m4 131 rfl) rfl
theorem q937 : (Jvm.Cond.code ({ cls := "BenchBroker", name := "isCell", desc := "(II)Z" } : Jvm.MethodName) prog_1_method_2_code (2 : Nat) (Option.some Jvm.ClassFile.FieldType.boolean)) ∈ lw_all := lw_g (lw_at lw_m4 132 rfl) rfl
theorem q938 : (Jvm.Cond.methodLink "BenchBroker" (3 : Nat) ({ cls := "BenchBroker", name := "isBetween", desc := "(III)Z" } : Jvm.MethodName)) ∈ lw_all := lw_g (lw_at lw_m4 133 rfl) rfl
theorem q939 : (Jvm.Cond.methodLink "BenchBroker" (176 : Nat) ({ cls := "BenchBroker", name := "requireIndex", desc := "(Z)V" } : Jvm.MethodName)) ∈ lw_all := lw_g (lw_at lw_m4 134 rfl) rfl
theorem q940 : (Jvm.Cond.static ({ cls := "BenchBroker", name := "requireIndex", desc := "(Z)V" } : Jvm.MethodName)) ∈ lw_all := lw_g (lw_at lw_m4 135 rfl) rfl
theorem q941 : (Jvm.Cond.code ({ cls := "BenchBroker", name := "requireIndex", desc := "(Z)V" } : Jvm.MethodName) prog_1_method_10_code (1 : Nat) (Option.none : Option Jvm.ClassFile.FieldType)) ∈ lw_all := lw_g (lw_at lw_m4 136 rfl) rfl
theorem q942 : (Jvm.Cond.classLink "BenchBroker" (7 : Nat) "java/lang/IndexOutOfBoundsException") ∈ lw_all := lw_g (lw_at lw_m4 137 rfl) rfl
theorem q951 : (Jvm.Cond.methodLink "BenchBroker" (9 : Nat) ({ cls := "java/lang/IndexOutOfBoundsException", name := "<init>", desc := "()V" } : Jvm.MethodName)) ∈ lw_all := lw_g (lw_at lw_m4 146 rfl) rfl
theorem q957 : (Jvm.Cond.methodLink "BenchBroker" (213 : Nat) ({ cls := "BenchBroker", name := "isRent", desc := "(I)Z" } : Jvm.MethodName)) ∈ lw_all := lw_g (lw_at lw_m4 152 rfl) rfl
theorem q958 : (Jvm.Cond.static ({ cls := "BenchBroker", name := "isRent", desc := "(I)Z" } : Jvm.MethodName)) ∈ lw_all := lw_g (lw_at lw_m4 153 rfl) rfl
theorem q959 : (Jvm.Cond.code ({ cls := "BenchBroker", name := "isRent", desc := "(I)Z" } : Jvm.MethodName) prog_1_method_3_code (1 : Nat) (Option.some Jvm.ClassFile.FieldType.boolean)) ∈ lw_all := lw_g (lw_at lw_m4 154 rfl) rfl
theorem q960 : (Jvm.Cond.methodLink "BenchBroker" (216 : Nat) ({ cls := "BenchBroker", name := "requireArgument", desc := "(Z)V" } : Jvm.MethodName)) ∈ lw_all := lw_g (lw_at lw_m4 155 rfl) rfl
theorem q961 : (Jvm.Cond.static ({ cls := "BenchBroker", name := "requireArgument", desc := "(Z)V" } : Jvm.MethodName)) ∈ lw_all := lw_g (lw_at lw_m4 156 rfl) rfl
theorem q962 : (Jvm.Cond.code ({ cls := "BenchBroker", name := "requireArgument", desc := "(Z)V" } : Jvm.MethodName) prog_1_method_11_code (1 : Nat) (Option.none : Option Jvm.ClassFile.FieldType)) ∈ lw_all := lw_g (lw_at lw_m4 157 rfl) rfl
theorem q963 : (Jvm.Cond.classLink "BenchBroker" (13 : Nat) "java/lang/IllegalArgumentException") ∈ lw_all := lw_g (lw_at lw_m4 158 rfl) rfl
theorem q972 : (Jvm.Cond.methodLink "BenchBroker" (15 : Nat) ({ cls := "java/lang/IllegalArgumentException", name := "<init>", desc := "()V" } : Jvm.MethodName)) ∈ lw_all := lw_g (lw_at lw_m4 167 rfl) rfl
theorem q978 : (Jvm.Cond.classLink "BenchBroker" (219 : Nat) "BenchBroker$Addition") ∈ lw_all := lw_g (lw_at lw_m4 173 rfl) rfl
theorem q980 : (Jvm.Cond.methodLink "BenchBroker" (221 : Nat) ({ cls := "BenchBroker$Addition", name := "<init>", desc := "(CIII)V" } : Jvm.MethodName)) ∈ lw_all := lw_g (lw_at lw_m4 175 rfl) rfl
theorem q1000 : (Jvm.Cond.methodLink "BenchBroker" (224 : Nat) ({ cls := "BenchBroker", name := "change", desc := "(LBenchBroker$Action;)I" } : Jvm.MethodName)) ∈ lw_all := lw_g (lw_at lw_m4 195 rfl) rfl
theorem q1001 : (Jvm.Cond.privateMethod ({ cls := "BenchBroker", name := "change", desc := "(LBenchBroker$Action;)I" } : Jvm.MethodName)) ∈ lw_tbl := lw_at lw_m4 196 rfl
theorem q1002 : (Jvm.Cond.instanceMethod ({ cls := "BenchBroker", name := "change", desc := "(LBenchBroker$Action;)I" } : Jvm.MethodName)) ∈ lw_all := lw_g (lw_at lw_m4 197 rfl) rfl
theorem q1003 : (Jvm.Cond.codeWith ({ cls := "BenchBroker", name := "change", desc := "(LBenchBroker$Action;)I" } : Jvm.MethodName) prog_1_method_22_code (4 : Nat) (Option.some Jvm.ClassFile.FieldType.int) [((8 : Nat), (20 : Nat), (21 : Nat), (25 : Nat))]) ∈ lw_all := lw_g (lw_at lw_m4 198 rfl) rfl
theorem q1004 : (Jvm.Cond.classLink "BenchBroker" (25 : Nat) "BenchBroker$Rejection") ∈ lw_all := lw_g (lw_at lw_m4 199 rfl) rfl
theorem q1005 : (Jvm.Cond.methodLink "BenchBroker" (154 : Nat) ({ cls := "BenchBroker$Action", name := "run", desc := "(LBenchBroker$Park;)I" } : Jvm.MethodName)) ∈ lw_all := lw_g (lw_at lw_m4 200 rfl) rfl
theorem q1034 : (Jvm.Cond.static ({ cls := "BenchBroker", name := "rejectIf", desc := "(ZII)V" } : Jvm.MethodName)) ∈ lw_all := lw_g (lw_at lw_m4 229 rfl) rfl
theorem q1035 : (Jvm.Cond.code ({ cls := "BenchBroker", name := "rejectIf", desc := "(ZII)V" } : Jvm.MethodName) prog_1_method_15_code (3 : Nat) (Option.none : Option Jvm.ClassFile.FieldType)) ∈ lw_all := lw_g (lw_at lw_m4 230 rfl) rfl
theorem q1044 : (Jvm.Cond.methodLink "BenchBroker" (27 : Nat) ({ cls := "BenchBroker$Rejection", name := "<init>", desc := "(II)V" } : Jvm.MethodName)) ∈ lw_all := lw_g (lw_at lw_m4 239 rfl) rfl
theorem q1052 : (Jvm.Cond.fieldLinkNest "BenchBroker" (110 : Nat) "BenchBroker$Rejection" "reason" "I" "BenchBroker") ∈ lw_tbl := lw_at lw_m5 7 rfl
theorem q1054 : (Jvm.Cond.fieldLinkNest "BenchBroker" (438 : Nat) "BenchBroker$Rejection" "detail" "I" "BenchBroker") ∈ lw_tbl := lw_at lw_m5 9 rfl
theorem q1056 : (Jvm.Cond.fieldLinkNest "BenchBroker" (441 : Nat) "BenchBroker$Rejection" "cause" "I" "BenchBroker") ∈ lw_tbl := lw_at lw_m5 11 rfl
theorem q1070 : (Jvm.Cond.static ({ cls := "BenchBroker", name := "indexAt", desc := "(LBenchBroker$Register;II)I" } : Jvm.MethodName)) ∈ lw_all := lw_g (lw_at lw_m5 25 rfl) rfl
theorem q1071 : (Jvm.Cond.code ({ cls := "BenchBroker", name := "indexAt", desc := "(LBenchBroker$Register;II)I" } : Jvm.MethodName) prog_1_method_17_code (5 : Nat) (Option.some Jvm.ClassFile.FieldType.int)) ∈ lw_all := lw_g (lw_at lw_m5 26 rfl) rfl
theorem q1072 : (Jvm.Cond.methodLink "BenchBroker" (36 : Nat) ({ cls := "BenchBroker$Register", name := "get", desc := "(I)LBenchBroker$Item;" } : Jvm.MethodName)) ∈ lw_all := lw_g (lw_at lw_m5 27 rfl) rfl
theorem q1073 : (Jvm.Cond.classLink "BenchBroker" (55 : Nat) "BenchBroker$Place") ∈ lw_all := lw_g (lw_at lw_m5 28 rfl) rfl
theorem q1074 : (Jvm.Cond.methodLink "BenchBroker" (57 : Nat) ({ cls := "BenchBroker$Place", name := "distanceTo", desc := "(II)I" } : Jvm.MethodName)) ∈ lw_all := lw_g (lw_at lw_m5 29 rfl) rfl
theorem q1075 : (Jvm.Cond.methodLink "BenchBroker" (61 : Nat) ({ cls := "BenchBroker$Place", name := "index", desc := "()I" } : Jvm.MethodName)) ∈ lw_all := lw_g (lw_at lw_m5 30 rfl) rfl
theorem q1155 : (Jvm.Cond.methodLink "BenchBroker" (157 : Nat) ({ cls := "BenchBroker", name := "commit", desc := "(LBenchBroker$Park;I)I" } : Jvm.MethodName)) ∈ lw_all := lw_g (lw_at lw_m5 110 rfl) rfl
theorem q1156 : (Jvm.Cond.privateMethod ({ cls := "BenchBroker", name := "commit", desc := "(LBenchBroker$Park;I)I" } : Jvm.MethodName)) ∈ lw_tbl := lw_at lw_m5 111 rfl
theorem q1157 : (Jvm.Cond.instanceMethod ({ cls := "BenchBroker", name := "commit", desc := "(LBenchBroker$Park;I)I" } : Jvm.MethodName)) ∈ lw_all := lw_g (lw_at lw_m5 112 rfl) rfl
theorem q1158 : (Jvm.Cond.code ({ cls := "BenchBroker", name := "commit", desc := "(LBenchBroker$Park;I)I" } : Jvm.MethodName) prog_1_method_21_code (3 : Nat) (Option.some Jvm.ClassFile.FieldType.int)) ∈ lw_all := lw_g (lw_at lw_m5 113 rfl) rfl
theorem q1159 : (Jvm.Cond.methodLink "BenchBroker" (142 : Nat) ({ cls := "java/util/ArrayList", name := "size", desc := "()I" } : Jvm.MethodName)) ∈ lw_all := lw_g (lw_at lw_m5 114 rfl) rfl
theorem q1160 : (Jvm.Cond.methodLink "BenchBroker" (143 : Nat) ({ cls := "java/util/ArrayList", name := "remove", desc := "(I)Ljava/lang/Object;" } : Jvm.MethodName)) ∈ lw_all := lw_g (lw_at lw_m5 115 rfl) rfl
theorem q1169 : (Jvm.Cond.methodLink "BenchBroker" (147 : Nat) ({ cls := "java/util/ArrayList", name := "add", desc := "(Ljava/lang/Object;)Z" } : Jvm.MethodName)) ∈ lw_all := lw_g (lw_at lw_m5 124 rfl) rfl
theorem q1170 : (Jvm.Cond.classLink "BenchBroker" (165 : Nat) "java/lang/UnsupportedOperationException") ∈ lw_all := lw_g (lw_at lw_m5 125 rfl) rfl
theorem q1179 : (Jvm.Cond.methodLink "BenchBroker" (167 : Nat) ({ cls := "java/lang/UnsupportedOperationException", name := "<init>", desc := "()V" } : Jvm.MethodName)) ∈ lw_all := lw_g (lw_at lw_m5 134 rfl) rfl
theorem q1189 : (Jvm.Cond.instanceMethod ({ cls := "BenchBroker", name := "setRent", desc := "(II)I" } : Jvm.MethodName)) ∈ lw_all := lw_g (lw_at lw_m5 144 rfl) rfl
theorem q1190 : (Jvm.Cond.selects "BenchBroker" ({ cls := "BenchBroker", name := "setRent", desc := "(II)I" } : Jvm.MethodName) ({ cls := "BenchBroker", name := "setRent", desc := "(II)I" } : Jvm.MethodName)) ∈ lw_all := lw_g (lw_at lw_m5 145 rfl) rfl
theorem q1191 : (Jvm.Cond.code ({ cls := "BenchBroker", name := "setRent", desc := "(II)I" } : Jvm.MethodName) prog_1_method_30_code (5 : Nat) (Option.some Jvm.ClassFile.FieldType.int)) ∈ lw_all := lw_g (lw_at lw_m5 146 rfl) rfl
theorem q1192 : (Jvm.Cond.methodLink "BenchBroker" (172 : Nat) ({ cls := "BenchBroker$Register", name := "has", desc := "(I)Z" } : Jvm.MethodName)) ∈ lw_all := lw_g (lw_at lw_m5 147 rfl) rfl
theorem q1197 : (Jvm.Cond.methodLink "BenchBroker" (228 : Nat) ({ cls := "BenchBroker$Park", name := "setRent", desc := "(II)I" } : Jvm.MethodName)) ∈ lw_all := lw_g (lw_at lw_m5 152 rfl) rfl
theorem q1205 : (Jvm.Cond.instanceMethod ({ cls := "BenchBroker", name := "addFountain", desc := "(III)I" } : Jvm.MethodName)) ∈ lw_all := lw_g (lw_at lw_m5 160 rfl) rfl
theorem q1206 : (Jvm.Cond.selects "BenchBroker" ({ cls := "BenchBroker", name := "addFountain", desc := "(III)I" } : Jvm.MethodName) ({ cls := "BenchBroker", name := "addFountain", desc := "(III)I" } : Jvm.MethodName)) ∈ lw_all := lw_g (lw_at lw_m5 161 rfl) rfl
theorem q1207 : (Jvm.Cond.code ({ cls := "BenchBroker", name := "addFountain", desc := "(III)I" } : Jvm.MethodName) prog_1_method_31_code (4 : Nat) (Option.some Jvm.ClassFile.FieldType.int)) ∈ lw_all := lw_g (lw_at lw_m5 162 rfl) rfl
theorem q1208 : (Jvm.Cond.methodLink "BenchBroker" (231 : Nat) ({ cls := "BenchBroker", name := "isLoudness", desc := "(I)Z" } : Jvm.MethodName)) ∈ lw_all := lw_g (lw_at lw_m5 163 rfl) rfl
theorem q1209 : (Jvm.Cond.static ({ cls := "BenchBroker", name := "isLoudness", desc := "(I)Z" } : Jvm.MethodName)) ∈ lw_all := lw_g (lw_at lw_m5 164 rfl) rfl
theorem q1210 : (Jvm.Cond.code ({ cls := "BenchBroker", name := "isLoudness", desc := "(I)Z" } : Jvm.MethodName) prog_1_method_4_code (1 : Nat) (Option.some Jvm.ClassFile.FieldType.boolean)) ∈ lw_all := lw_g (lw_at lw_m5 165 rfl) rfl
theorem q1215 : (Jvm.Cond.instanceMethod ({ cls := "BenchBroker", name := "setLoudness", desc := "(II)I" } : Jvm.MethodName)) ∈ lw_all := lw_g (lw_at lw_m5 170 rfl) rfl
theorem q1216 : (Jvm.Cond.selects "BenchBroker" ({ cls := "BenchBroker", name := "setLoudness", desc := "(II)I" } : Jvm.MethodName) ({ cls := "BenchBroker", name := "setLoudness", desc := "(II)I" } : Jvm.MethodName)) ∈ lw_all := lw_g (lw_at lw_m5 171 rfl) rfl
theorem q1217 : (Jvm.Cond.code ({ cls := "BenchBroker", name := "setLoudness", desc := "(II)I" } : Jvm.MethodName) prog_1_method_32_code (5 : Nat) (Option.some Jvm.ClassFile.FieldType.int)) ∈ lw_all := lw_g (lw_at lw_m5 172 rfl) rfl
theorem q1218 : (Jvm.Cond.methodLink "BenchBroker" (234 : Nat) ({ cls := "BenchBroker$Park", name := "setLoudness", desc := "(II)I" } : Jvm.MethodName)) ∈ lw_all := lw_g (lw_at lw_m5 173 rfl) rfl
theorem q1226 : (Jvm.Cond.instanceMethod ({ cls := "BenchBroker", name := "switchFountain", desc := "(I)Z" } : Jvm.MethodName)) ∈ lw_all := lw_g (lw_at lw_m5 181 rfl) rfl
theorem q1227 : (Jvm.Cond.selects "BenchBroker" ({ cls := "BenchBroker", name := "switchFountain", desc := "(I)Z" } : Jvm.MethodName) ({ cls := "BenchBroker", name := "switchFountain", desc := "(I)Z" } : Jvm.MethodName)) ∈ lw_all := lw_g (lw_at lw_m5 182 rfl) rfl
theorem q1228 : (Jvm.Cond.code ({ cls := "BenchBroker", name := "switchFountain", desc := "(I)Z" } : Jvm.MethodName) prog_1_method_33_code (2 : Nat) (Option.some Jvm.ClassFile.FieldType.boolean)) ∈ lw_all := lw_g (lw_at lw_m5 183 rfl) rfl
theorem q1229 : (Jvm.Cond.classLink "BenchBroker" (237 : Nat) "BenchBroker$PlainAction") ∈ lw_all := lw_g (lw_at lw_m5 184 rfl) rfl
theorem q1231 : (Jvm.Cond.methodLink "BenchBroker" (239 : Nat) ({ cls := "BenchBroker$PlainAction", name := "<init>", desc := "(CII)V" } : Jvm.MethodName)) ∈ lw_all := lw_g (lw_at lw_m5 186 rfl) rfl
theorem q1246 : (Jvm.Cond.instanceMethod ({ cls := "BenchBroker", name := "setNoiseLimit", desc := "(I)I" } : Jvm.MethodName)) ∈ lw_all := lw_g (lw_at lw_m5 201 rfl) rfl
theorem q1247 : (Jvm.Cond.selects "BenchBroker" ({ cls := "BenchBroker", name := "setNoiseLimit", desc := "(I)I" } : Jvm.MethodName) ({ cls := "BenchBroker", name := "setNoiseLimit", desc := "(I)I" } : Jvm.MethodName)) ∈ lw_all := lw_g (lw_at lw_m5 202 rfl) rfl
theorem q1248 : (Jvm.Cond.code ({ cls := "BenchBroker", name := "setNoiseLimit", desc := "(I)I" } : Jvm.MethodName) prog_1_method_34_code (2 : Nat) (Option.some Jvm.ClassFile.FieldType.int)) ∈ lw_all := lw_g (lw_at lw_m5 203 rfl) rfl
theorem q1249 : (Jvm.Cond.methodLink "BenchBroker" (242 : Nat) ({ cls := "BenchBroker", name := "isLimit", desc := "(I)Z" } : Jvm.MethodName)) ∈ lw_all := lw_g (lw_at lw_m5 204 rfl) rfl
theorem q1250 : (Jvm.Cond.static ({ cls := "BenchBroker", name := "isLimit", desc := "(I)Z" } : Jvm.MethodName)) ∈ lw_all := lw_g (lw_at lw_m5 205 rfl) rfl
theorem q1251 : (Jvm.Cond.code ({ cls := "BenchBroker", name := "isLimit", desc := "(I)Z" } : Jvm.MethodName) prog_1_method_5_code (1 : Nat) (Option.some Jvm.ClassFile.FieldType.boolean)) ∈ lw_all := lw_g (lw_at lw_m5 206 rfl) rfl
theorem q1256 : (Jvm.Cond.instanceMethod ({ cls := "BenchBroker", name := "rowOf", desc := "(I)I" } : Jvm.MethodName)) ∈ lw_all := lw_g (lw_at lw_m5 211 rfl) rfl
theorem q1257 : (Jvm.Cond.selects "BenchBroker" ({ cls := "BenchBroker", name := "rowOf", desc := "(I)I" } : Jvm.MethodName) ({ cls := "BenchBroker", name := "rowOf", desc := "(I)I" } : Jvm.MethodName)) ∈ lw_all := lw_g (lw_at lw_m5 212 rfl) rfl
theorem q1258 : (Jvm.Cond.code ({ cls := "BenchBroker", name := "rowOf", desc := "(I)I" } : Jvm.MethodName) prog_1_method_36_code (2 : Nat) (Option.some Jvm.ClassFile.FieldType.int)) ∈ lw_all := lw_g (lw_at lw_m5 213 rfl) rfl
theorem q1259 : (Jvm.Cond.methodLink "BenchBroker" (190 : Nat) ({ cls := "BenchBroker", name := "requireBench", desc := "(I)LBenchBroker$Bench;" } : Jvm.MethodName)) ∈ lw_all := lw_g (lw_at lw_m5 214 rfl) rfl
theorem q1260 : (Jvm.Cond.privateMethod ({ cls := "BenchBroker", name := "requireBench", desc := "(I)LBenchBroker$Bench;" } : Jvm.MethodName)) ∈ lw_tbl := lw_at lw_m5 215 rfl
theorem q1261 : (Jvm.Cond.instanceMethod ({ cls := "BenchBroker", name := "requireBench", desc := "(I)LBenchBroker$Bench;" } : Jvm.MethodName)) ∈ lw_all := lw_g (lw_at lw_m5 216 rfl) rfl
theorem q1262 : (Jvm.Cond.code ({ cls := "BenchBroker", name := "requireBench", desc := "(I)LBenchBroker$Bench;" } : Jvm.MethodName) prog_1_method_23_code (2 : Nat) (Option.some (Jvm.ClassFile.FieldType.object "BenchBroker$Bench"))) ∈ lw_all := lw_g (lw_at lw_m5 217 rfl) rfl
theorem q1267 : (Jvm.Cond.instanceMethod ({ cls := "BenchBroker", name := "columnOf", desc := "(I)I" } : Jvm.MethodName)) ∈ lw_all := lw_g (lw_at lw_m5 222 rfl) rfl
theorem q1268 : (Jvm.Cond.selects "BenchBroker" ({ cls := "BenchBroker", name := "columnOf", desc := "(I)I" } : Jvm.MethodName) ({ cls := "BenchBroker", name := "columnOf", desc := "(I)I" } : Jvm.MethodName)) ∈ lw_all := lw_g (lw_at lw_m5 223 rfl) rfl
theorem q1269 : (Jvm.Cond.code ({ cls := "BenchBroker", name := "columnOf", desc := "(I)I" } : Jvm.MethodName) prog_1_method_37_code (2 : Nat) (Option.some Jvm.ClassFile.FieldType.int)) ∈ lw_all := lw_g (lw_at lw_m5 224 rfl) rfl
theorem q1274 : (Jvm.Cond.instanceMethod ({ cls := "BenchBroker", name := "baseRent", desc := "(I)I" } : Jvm.MethodName)) ∈ lw_all := lw_g (lw_at lw_m5 229 rfl) rfl
theorem q1275 : (Jvm.Cond.selects "BenchBroker" ({ cls := "BenchBroker", name := "baseRent", desc := "(I)I" } : Jvm.MethodName) ({ cls := "BenchBroker", name := "baseRent", desc := "(I)I" } : Jvm.MethodName)) ∈ lw_all := lw_g (lw_at lw_m5 230 rfl) rfl
theorem q1276 : (Jvm.Cond.code ({ cls := "BenchBroker", name := "baseRent", desc := "(I)I" } : Jvm.MethodName) prog_1_method_38_code (2 : Nat) (Option.some Jvm.ClassFile.FieldType.int)) ∈ lw_all := lw_g (lw_at lw_m5 231 rfl) rfl
theorem q1281 : (Jvm.Cond.instanceMethod ({ cls := "BenchBroker", name := "rentOf", desc := "(I)I" } : Jvm.MethodName)) ∈ lw_all := lw_g (lw_at lw_m5 236 rfl) rfl
theorem q1282 : (Jvm.Cond.selects "BenchBroker" ({ cls := "BenchBroker", name := "rentOf", desc := "(I)I" } : Jvm.MethodName) ({ cls := "BenchBroker", name := "rentOf", desc := "(I)I" } : Jvm.MethodName)) ∈ lw_all := lw_g (lw_at lw_m5 237 rfl) rfl
theorem q1283 : (Jvm.Cond.code ({ cls := "BenchBroker", name := "rentOf", desc := "(I)I" } : Jvm.MethodName) prog_1_method_39_code (2 : Nat) (Option.some Jvm.ClassFile.FieldType.int)) ∈ lw_all := lw_g (lw_at lw_m5 238 rfl) rfl
theorem q1284 : (Jvm.Cond.methodLink "BenchBroker" (245 : Nat) ({ cls := "BenchBroker$Park", name := "rentOf", desc := "(LBenchBroker$Bench;)I" } : Jvm.MethodName)) ∈ lw_all := lw_g (lw_at lw_m5 239 rfl) rfl
theorem q1289 : (Jvm.Cond.instanceMethod ({ cls := "BenchBroker", name := "loudnessOf", desc := "(I)I" } : Jvm.MethodName)) ∈ lw_all := lw_g (lw_at lw_m6 4 rfl) rfl
theorem q1290 : (Jvm.Cond.selects "BenchBroker" ({ cls := "BenchBroker", name := "loudnessOf", desc := "(I)I" } : Jvm.MethodName) ({ cls := "BenchBroker", name := "loudnessOf", desc := "(I)I" } : Jvm.MethodName)) ∈ lw_all := lw_g (lw_at lw_m6 5 rfl) rfl
theorem q1291 : (Jvm.Cond.code ({ cls := "BenchBroker", name := "loudnessOf", desc := "(I)I" } : Jvm.MethodName) prog_1_method_41_code (2 : Nat) (Option.some Jvm.ClassFile.FieldType.int)) ∈ lw_all := lw_g (lw_at lw_m6 6 rfl) rfl
theorem q1292 : (Jvm.Cond.methodLink "BenchBroker" (249 : Nat) ({ cls := "BenchBroker", name := "requireFountain", desc := "(I)LBenchBroker$Fountain;" } : Jvm.MethodName)) ∈ lw_all := lw_g (lw_at lw_m6 7 rfl) rfl
theorem q1293 : (Jvm.Cond.privateMethod ({ cls := "BenchBroker", name := "requireFountain", desc := "(I)LBenchBroker$Fountain;" } : Jvm.MethodName)) ∈ lw_tbl := lw_at lw_m6 8 rfl
theorem q1294 : (Jvm.Cond.instanceMethod ({ cls := "BenchBroker", name := "requireFountain", desc := "(I)LBenchBroker$Fountain;" } : Jvm.MethodName)) ∈ lw_all := lw_g (lw_at lw_m6 9 rfl) rfl
theorem q1295 : (Jvm.Cond.code ({ cls := "BenchBroker", name := "requireFountain", desc := "(I)LBenchBroker$Fountain;" } : Jvm.MethodName) prog_1_method_24_code (2 : Nat) (Option.some (Jvm.ClassFile.FieldType.object "BenchBroker$Fountain"))) ∈ lw_all := lw_g (lw_at lw_m6 10 rfl) rfl
theorem q1296 : (Jvm.Cond.classLink "BenchBroker" (183 : Nat) "BenchBroker$Fountain") ∈ lw_all := lw_g (lw_at lw_m6 11 rfl) rfl
theorem q1301 : (Jvm.Cond.instanceMethod ({ cls := "BenchBroker", name := "isRunning", desc := "(I)Z" } : Jvm.MethodName)) ∈ lw_all := lw_g (lw_at lw_m6 16 rfl) rfl
theorem q1302 : (Jvm.Cond.selects "BenchBroker" ({ cls := "BenchBroker", name := "isRunning", desc := "(I)Z" } : Jvm.MethodName) ({ cls := "BenchBroker", name := "isRunning", desc := "(I)Z" } : Jvm.MethodName)) ∈ lw_all := lw_g (lw_at lw_m6 17 rfl) rfl
theorem q1303 : (Jvm.Cond.code ({ cls := "BenchBroker", name := "isRunning", desc := "(I)Z" } : Jvm.MethodName) prog_1_method_42_code (2 : Nat) (Option.some Jvm.ClassFile.FieldType.boolean)) ∈ lw_all := lw_g (lw_at lw_m6 18 rfl) rfl
theorem q1308 : (Jvm.Cond.instanceMethod ({ cls := "BenchBroker", name := "noiseAt", desc := "(II)I" } : Jvm.MethodName)) ∈ lw_all := lw_g (lw_at lw_m6 23 rfl) rfl
theorem q1309 : (Jvm.Cond.selects "BenchBroker" ({ cls := "BenchBroker", name := "noiseAt", desc := "(II)I" } : Jvm.MethodName) ({ cls := "BenchBroker", name := "noiseAt", desc := "(II)I" } : Jvm.MethodName)) ∈ lw_all := lw_g (lw_at lw_m6 24 rfl) rfl
theorem q1310 : (Jvm.Cond.code ({ cls := "BenchBroker", name := "noiseAt", desc := "(II)I" } : Jvm.MethodName) prog_1_method_44_code (3 : Nat) (Option.some Jvm.ClassFile.FieldType.int)) ∈ lw_all := lw_g (lw_at lw_m6 25 rfl) rfl
theorem q1311 : (Jvm.Cond.methodLink "BenchBroker" (263 : Nat) ({ cls := "BenchBroker$Park", name := "noiseAt", desc := "(II)I" } : Jvm.MethodName)) ∈ lw_all := lw_g (lw_at lw_m6 26 rfl) rfl
theorem q1316 : (Jvm.Cond.instanceMethod ({ cls := "BenchBroker", name := "noiseBySpreading", desc := "(II)I" } : Jvm.MethodName)) ∈ lw_all := lw_g (lw_at lw_m6 31 rfl) rfl
theorem q1317 : (Jvm.Cond.selects "BenchBroker" ({ cls := "BenchBroker", name := "noiseBySpreading", desc := "(II)I" } : Jvm.MethodName) ({ cls := "BenchBroker", name := "noiseBySpreading", desc := "(II)I" } : Jvm.MethodName)) ∈ lw_all := lw_g (lw_at lw_m6 32 rfl) rfl
theorem q1318 : (Jvm.Cond.code ({ cls := "BenchBroker", name := "noiseBySpreading", desc := "(II)I" } : Jvm.MethodName) prog_1_method_45_code (3 : Nat) (Option.some Jvm.ClassFile.FieldType.int)) ∈ lw_all := lw_g (lw_at lw_m6 33 rfl) rfl
theorem q1319 : (Jvm.Cond.methodLink "BenchBroker" (266 : Nat) ({ cls := "BenchBroker$Park", name := "noiseBySpreading", desc := "(II)I" } : Jvm.MethodName)) ∈ lw_all := lw_g (lw_at lw_m6 34 rfl) rfl
theorem q1327 : (Jvm.Cond.instanceMethod ({ cls := "BenchBroker", name := "isQuiet", desc := "(I)Z" } : Jvm.MethodName)) ∈ lw_all := lw_g (lw_at lw_m6 42 rfl) rfl
theorem q1328 : (Jvm.Cond.selects "BenchBroker" ({ cls := "BenchBroker", name := "isQuiet", desc := "(I)Z" } : Jvm.MethodName) ({ cls := "BenchBroker", name := "isQuiet", desc := "(I)Z" } : Jvm.MethodName)) ∈ lw_all := lw_g (lw_at lw_m6 43 rfl) rfl
theorem q1329 : (Jvm.Cond.code ({ cls := "BenchBroker", name := "isQuiet", desc := "(I)Z" } : Jvm.MethodName) prog_1_method_46_code (2 : Nat) (Option.some Jvm.ClassFile.FieldType.boolean)) ∈ lw_all := lw_g (lw_at lw_m6 44 rfl) rfl
theorem q1330 : (Jvm.Cond.methodLink "BenchBroker" (269 : Nat) ({ cls := "BenchBroker$Park", name := "isQuiet", desc := "(LBenchBroker$Bench;)Z" } : Jvm.MethodName)) ∈ lw_all := lw_g (lw_at lw_m6 45 rfl) rfl
theorem q1335 : (Jvm.Cond.instanceMethod ({ cls := "BenchBroker", name := "addTenant", desc := "(I)I" } : Jvm.MethodName)) ∈ lw_all := lw_g (lw_at lw_m6 50 rfl) rfl
theorem q1336 : (Jvm.Cond.selects "BenchBroker" ({ cls := "BenchBroker", name := "addTenant", desc := "(I)I" } : Jvm.MethodName) ({ cls := "BenchBroker", name := "addTenant", desc := "(I)I" } : Jvm.MethodName)) ∈ lw_all := lw_g (lw_at lw_m6 51 rfl) rfl
theorem q1337 : (Jvm.Cond.code ({ cls := "BenchBroker", name := "addTenant", desc := "(I)I" } : Jvm.MethodName) prog_1_method_48_code (2 : Nat) (Option.some Jvm.ClassFile.FieldType.int)) ∈ lw_all := lw_g (lw_at lw_m6 52 rfl) rfl
theorem q1338 : (Jvm.Cond.methodLink "BenchBroker" (276 : Nat) ({ cls := "BenchBroker", name := "isPurse", desc := "(I)Z" } : Jvm.MethodName)) ∈ lw_all := lw_g (lw_at lw_m6 53 rfl) rfl
theorem q1339 : (Jvm.Cond.static ({ cls := "BenchBroker", name := "isPurse", desc := "(I)Z" } : Jvm.MethodName)) ∈ lw_all := lw_g (lw_at lw_m6 54 rfl) rfl
theorem q1340 : (Jvm.Cond.code ({ cls := "BenchBroker", name := "isPurse", desc := "(I)Z" } : Jvm.MethodName) prog_1_method_6_code (1 : Nat) (Option.some Jvm.ClassFile.FieldType.boolean)) ∈ lw_all := lw_g (lw_at lw_m6 55 rfl) rfl
theorem q1345 : (Jvm.Cond.instanceMethod ({ cls := "BenchBroker", name := "giveCoins", desc := "(II)I" } : Jvm.MethodName)) ∈ lw_all := lw_g (lw_at lw_m6 60 rfl) rfl
theorem q1346 : (Jvm.Cond.selects "BenchBroker" ({ cls := "BenchBroker", name := "giveCoins", desc := "(II)I" } : Jvm.MethodName) ({ cls := "BenchBroker", name := "giveCoins", desc := "(II)I" } : Jvm.MethodName)) ∈ lw_all := lw_g (lw_at lw_m6 61 rfl) rfl
theorem q1347 : (Jvm.Cond.code ({ cls := "BenchBroker", name := "giveCoins", desc := "(II)I" } : Jvm.MethodName) prog_1_method_49_code (3 : Nat) (Option.some Jvm.ClassFile.FieldType.int)) ∈ lw_all := lw_g (lw_at lw_m6 62 rfl) rfl
theorem q1348 : (Jvm.Cond.methodLink "BenchBroker" (279 : Nat) ({ cls := "BenchBroker", name := "isGift", desc := "(I)Z" } : Jvm.MethodName)) ∈ lw_all := lw_g (lw_at lw_m6 63 rfl) rfl
theorem q1349 : (Jvm.Cond.static ({ cls := "BenchBroker", name := "isGift", desc := "(I)Z" } : Jvm.MethodName)) ∈ lw_all := lw_g (lw_at lw_m6 64 rfl) rfl
theorem q1350 : (Jvm.Cond.code ({ cls := "BenchBroker", name := "isGift", desc := "(I)Z" } : Jvm.MethodName) prog_1_method_7_code (1 : Nat) (Option.some Jvm.ClassFile.FieldType.boolean)) ∈ lw_all := lw_g (lw_at lw_m6 65 rfl) rfl
theorem q1355 : (Jvm.Cond.instanceMethod ({ cls := "BenchBroker", name := "coinsOf", desc := "(I)I" } : Jvm.MethodName)) ∈ lw_all := lw_g (lw_at lw_m6 70 rfl) rfl
theorem q1356 : (Jvm.Cond.selects "BenchBroker" ({ cls := "BenchBroker", name := "coinsOf", desc := "(I)I" } : Jvm.MethodName) ({ cls := "BenchBroker", name := "coinsOf", desc := "(I)I" } : Jvm.MethodName)) ∈ lw_all := lw_g (lw_at lw_m6 71 rfl) rfl
theorem q1357 : (Jvm.Cond.code ({ cls := "BenchBroker", name := "coinsOf", desc := "(I)I" } : Jvm.MethodName) prog_1_method_51_code (2 : Nat) (Option.some Jvm.ClassFile.FieldType.int)) ∈ lw_all := lw_g (lw_at lw_m6 72 rfl) rfl
theorem q1358 : (Jvm.Cond.methodLink "BenchBroker" (282 : Nat) ({ cls := "BenchBroker", name := "requireTenant", desc := "(I)LBenchBroker$Tenant;" } : Jvm.MethodName)) ∈ lw_all := lw_g (lw_at lw_m6 73 rfl) rfl
theorem q1359 : (Jvm.Cond.privateMethod ({ cls := "BenchBroker", name := "requireTenant", desc := "(I)LBenchBroker$Tenant;" } : Jvm.MethodName)) ∈ lw_tbl := lw_at lw_m6 74 rfl
theorem q1360 : (Jvm.Cond.instanceMethod ({ cls := "BenchBroker", name := "requireTenant", desc := "(I)LBenchBroker$Tenant;" } : Jvm.MethodName)) ∈ lw_all := lw_g (lw_at lw_m6 75 rfl) rfl
theorem q1361 : (Jvm.Cond.code ({ cls := "BenchBroker", name := "requireTenant", desc := "(I)LBenchBroker$Tenant;" } : Jvm.MethodName) prog_1_method_25_code (2 : Nat) (Option.some (Jvm.ClassFile.FieldType.object "BenchBroker$Tenant"))) ∈ lw_all := lw_g (lw_at lw_m6 76 rfl) rfl
theorem q1362 : (Jvm.Cond.classLink "BenchBroker" (188 : Nat) "BenchBroker$Tenant") ∈ lw_all := lw_g (lw_at lw_m6 77 rfl) rfl
theorem q1367 : (Jvm.Cond.instanceMethod ({ cls := "BenchBroker", name := "defaultsOf", desc := "(I)I" } : Jvm.MethodName)) ∈ lw_all := lw_g (lw_at lw_m6 82 rfl) rfl
theorem q1368 : (Jvm.Cond.selects "BenchBroker" ({ cls := "BenchBroker", name := "defaultsOf", desc := "(I)I" } : Jvm.MethodName) ({ cls := "BenchBroker", name := "defaultsOf", desc := "(I)I" } : Jvm.MethodName)) ∈ lw_all := lw_g (lw_at lw_m6 83 rfl) rfl
theorem q1369 : (Jvm.Cond.code ({ cls := "BenchBroker", name := "defaultsOf", desc := "(I)I" } : Jvm.MethodName) prog_1_method_52_code (2 : Nat) (Option.some Jvm.ClassFile.FieldType.int)) ∈ lw_all := lw_g (lw_at lw_m6 84 rfl) rfl
theorem q1375 : (Jvm.Cond.instanceMethod ({ cls := "BenchBroker", name := "benchOf", desc := "(I)I" } : Jvm.MethodName)) ∈ lw_all := lw_g (lw_at lw_m6 90 rfl) rfl
theorem q1376 : (Jvm.Cond.selects "BenchBroker" ({ cls := "BenchBroker", name := "benchOf", desc := "(I)I" } : Jvm.MethodName) ({ cls := "BenchBroker", name := "benchOf", desc := "(I)I" } : Jvm.MethodName)) ∈ lw_all := lw_g (lw_at lw_m6 91 rfl) rfl
theorem q1377 : (Jvm.Cond.code ({ cls := "BenchBroker", name := "benchOf", desc := "(I)I" } : Jvm.MethodName) prog_1_method_53_code (3 : Nat) (Option.some Jvm.ClassFile.FieldType.int)) ∈ lw_all := lw_g (lw_at lw_m6 92 rfl) rfl
theorem q1378 : (Jvm.Cond.methodLink "BenchBroker" (197 : Nat) ({ cls := "BenchBroker", name := "requireElement", desc := "(Z)V" } : Jvm.MethodName)) ∈ lw_all := lw_g (lw_at lw_m6 93 rfl) rfl
theorem q1379 : (Jvm.Cond.static ({ cls := "BenchBroker", name := "requireElement", desc := "(Z)V" } : Jvm.MethodName)) ∈ lw_all := lw_g (lw_at lw_m6 94 rfl) rfl
theorem q1380 : (Jvm.Cond.code ({ cls := "BenchBroker", name := "requireElement", desc := "(Z)V" } : Jvm.MethodName) prog_1_method_13_code (1 : Nat) (Option.none : Option Jvm.ClassFile.FieldType)) ∈ lw_all := lw_g (lw_at lw_m6 95 rfl) rfl
theorem q1381 : (Jvm.Cond.classLink "BenchBroker" (19 : Nat) "java/util/NoSuchElementException") ∈ lw_all := lw_g (lw_at lw_m6 96 rfl) rfl
theorem q1382 : (Jvm.Cond.methodLink "BenchBroker" (21 : Nat) ({ cls := "java/util/NoSuchElementException", name := "<init>", desc := "()V" } : Jvm.MethodName)) ∈ lw_all := lw_g (lw_at lw_m6 97 rfl) rfl
theorem q1387 : (Jvm.Cond.instanceMethod ({ cls := "BenchBroker", name := "canLease", desc := "(II)Z" } : Jvm.MethodName)) ∈ lw_all := lw_g (lw_at lw_m6 102 rfl) rfl
theorem q1388 : (Jvm.Cond.selects "BenchBroker" ({ cls := "BenchBroker", name := "canLease", desc := "(II)Z" } : Jvm.MethodName) ({ cls := "BenchBroker", name := "canLease", desc := "(II)Z" } : Jvm.MethodName)) ∈ lw_all := lw_g (lw_at lw_m6 103 rfl) rfl
theorem q1389 : (Jvm.Cond.code ({ cls := "BenchBroker", name := "canLease", desc := "(II)Z" } : Jvm.MethodName) prog_1_method_54_code (3 : Nat) (Option.some Jvm.ClassFile.FieldType.boolean)) ∈ lw_all := lw_g (lw_at lw_m6 104 rfl) rfl
theorem q1390 : (Jvm.Cond.methodLink "BenchBroker" (296 : Nat) ({ cls := "BenchBroker$Park", name := "obstacle", desc := "(LBenchBroker$Tenant;LBenchBroker$Bench;)LBenchBroker$Rejection;" } : Jvm.MethodName)) ∈ lw_all := lw_g (lw_at lw_m6 105 rfl) rfl
theorem q1395 : (Jvm.Cond.instanceMethod ({ cls := "BenchBroker", name := "cheapestFor", desc := "(I)I" } : Jvm.MethodName)) ∈ lw_all := lw_g (lw_at lw_m6 110 rfl) rfl
theorem q1396 : (Jvm.Cond.selects "BenchBroker" ({ cls := "BenchBroker", name := "cheapestFor", desc := "(I)I" } : Jvm.MethodName) ({ cls := "BenchBroker", name := "cheapestFor", desc := "(I)I" } : Jvm.MethodName)) ∈ lw_all := lw_g (lw_at lw_m6 111 rfl) rfl
theorem q1397 : (Jvm.Cond.code ({ cls := "BenchBroker", name := "cheapestFor", desc := "(I)I" } : Jvm.MethodName) prog_1_method_55_code (2 : Nat) (Option.some Jvm.ClassFile.FieldType.int)) ∈ lw_all := lw_g (lw_at lw_m6 112 rfl) rfl
theorem q1398 : (Jvm.Cond.methodLink "BenchBroker" (300 : Nat) ({ cls := "BenchBroker$Park", name := "cheapestFor", desc := "(LBenchBroker$Tenant;)I" } : Jvm.MethodName)) ∈ lw_all := lw_g (lw_at lw_m6 113 rfl) rfl
theorem q1402 : (Jvm.Cond.methodLink "BenchBroker" (304 : Nat) ({ cls := "BenchBroker", name := "requireFound", desc := "(I)I" } : Jvm.MethodName)) ∈ lw_all := lw_g (lw_at lw_m6 117 rfl) rfl
theorem q1403 : (Jvm.Cond.static ({ cls := "BenchBroker", name := "requireFound", desc := "(I)I" } : Jvm.MethodName)) ∈ lw_all := lw_g (lw_at lw_m6 118 rfl) rfl
theorem q1404 : (Jvm.Cond.code ({ cls := "BenchBroker", name := "requireFound", desc := "(I)I" } : Jvm.MethodName) prog_1_method_27_code (1 : Nat) (Option.some Jvm.ClassFile.FieldType.int)) ∈ lw_all := lw_g (lw_at lw_m6 119 rfl) rfl
theorem q1409 : (Jvm.Cond.instanceMethod ({ cls := "BenchBroker", name := "lease", desc := "(III)I" } : Jvm.MethodName)) ∈ lw_all := lw_g (lw_at lw_m6 124 rfl) rfl
theorem q1410 : (Jvm.Cond.selects "BenchBroker" ({ cls := "BenchBroker", name := "lease", desc := "(III)I" } : Jvm.MethodName) ({ cls := "BenchBroker", name := "lease", desc := "(III)I" } : Jvm.MethodName)) ∈ lw_all := lw_g (lw_at lw_m6 125 rfl) rfl
theorem q1411 : (Jvm.Cond.code ({ cls := "BenchBroker", name := "lease", desc := "(III)I" } : Jvm.MethodName) prog_1_method_56_code (4 : Nat) (Option.some Jvm.ClassFile.FieldType.int)) ∈ lw_all := lw_g (lw_at lw_m6 126 rfl) rfl
theorem q1412 : (Jvm.Cond.methodLink "BenchBroker" (308 : Nat) ({ cls := "BenchBroker", name := "isTerm", desc := "(I)Z" } : Jvm.MethodName)) ∈ lw_all := lw_g (lw_at lw_m6 127 rfl) rfl
theorem q1413 : (Jvm.Cond.static ({ cls := "BenchBroker", name := "isTerm", desc := "(I)Z" } : Jvm.MethodName)) ∈ lw_all := lw_g (lw_at lw_m6 128 rfl) rfl
theorem q1414 : (Jvm.Cond.code ({ cls := "BenchBroker", name := "isTerm", desc := "(I)Z" } : Jvm.MethodName) prog_1_method_8_code (1 : Nat) (Option.some Jvm.ClassFile.FieldType.boolean)) ∈ lw_all := lw_g (lw_at lw_m6 129 rfl) rfl
theorem q1415 : (Jvm.Cond.classLink "BenchBroker" (311 : Nat) "BenchBroker$LeaseAction") ∈ lw_all := lw_g (lw_at lw_m6 130 rfl) rfl
theorem q1417 : (Jvm.Cond.methodLink "BenchBroker" (313 : Nat) ({ cls := "BenchBroker$LeaseAction", name := "<init>", desc := "(CIII)V" } : Jvm.MethodName)) ∈ lw_all := lw_g (lw_at lw_m6 132 rfl) rfl
theorem q1432 : (Jvm.Cond.instanceMethod ({ cls := "BenchBroker", name := "endLease", desc := "(I)I" } : Jvm.MethodName)) ∈ lw_all := lw_g (lw_at lw_m6 147 rfl) rfl
theorem q1433 : (Jvm.Cond.selects "BenchBroker" ({ cls := "BenchBroker", name := "endLease", desc := "(I)I" } : Jvm.MethodName) ({ cls := "BenchBroker", name := "endLease", desc := "(I)I" } : Jvm.MethodName)) ∈ lw_all := lw_g (lw_at lw_m6 148 rfl) rfl
theorem q1434 : (Jvm.Cond.code ({ cls := "BenchBroker", name := "endLease", desc := "(I)I" } : Jvm.MethodName) prog_1_method_57_code (2 : Nat) (Option.some Jvm.ClassFile.FieldType.int)) ∈ lw_all := lw_g (lw_at lw_m6 149 rfl) rfl
theorem q1439 : (Jvm.Cond.instanceMethod ({ cls := "BenchBroker", name := "renew", desc := "(II)I" } : Jvm.MethodName)) ∈ lw_all := lw_g (lw_at lw_m6 154 rfl) rfl
theorem q1440 : (Jvm.Cond.selects "BenchBroker" ({ cls := "BenchBroker", name := "renew", desc := "(II)I" } : Jvm.MethodName) ({ cls := "BenchBroker", name := "renew", desc := "(II)I" } : Jvm.MethodName)) ∈ lw_all := lw_g (lw_at lw_m6 155 rfl) rfl
theorem q1441 : (Jvm.Cond.code ({ cls := "BenchBroker", name := "renew", desc := "(II)I" } : Jvm.MethodName) prog_1_method_58_code (3 : Nat) (Option.some Jvm.ClassFile.FieldType.int)) ∈ lw_all := lw_g (lw_at lw_m6 156 rfl) rfl
theorem q1446 : (Jvm.Cond.instanceMethod ({ cls := "BenchBroker", name := "isLet", desc := "(I)Z" } : Jvm.MethodName)) ∈ lw_all := lw_g (lw_at lw_m6 161 rfl) rfl
theorem q1447 : (Jvm.Cond.selects "BenchBroker" ({ cls := "BenchBroker", name := "isLet", desc := "(I)Z" } : Jvm.MethodName) ({ cls := "BenchBroker", name := "isLet", desc := "(I)Z" } : Jvm.MethodName)) ∈ lw_all := lw_g (lw_at lw_m6 162 rfl) rfl
theorem q1448 : (Jvm.Cond.code ({ cls := "BenchBroker", name := "isLet", desc := "(I)Z" } : Jvm.MethodName) prog_1_method_59_code (2 : Nat) (Option.some Jvm.ClassFile.FieldType.boolean)) ∈ lw_all := lw_g (lw_at lw_m6 163 rfl) rfl
theorem q1449 : (Jvm.Cond.methodLink "BenchBroker" (194 : Nat) ({ cls := "BenchBroker$Bench", name := "isLet", desc := "()Z" } : Jvm.MethodName)) ∈ lw_all := lw_g (lw_at lw_m6 164 rfl) rfl
theorem q1454 : (Jvm.Cond.instanceMethod ({ cls := "BenchBroker", name := "tenantOf", desc := "(I)I" } : Jvm.MethodName)) ∈ lw_all := lw_g (lw_at lw_m6 169 rfl) rfl
theorem q1455 : (Jvm.Cond.selects "BenchBroker" ({ cls := "BenchBroker", name := "tenantOf", desc := "(I)I" } : Jvm.MethodName) ({ cls := "BenchBroker", name := "tenantOf", desc := "(I)I" } : Jvm.MethodName)) ∈ lw_all := lw_g (lw_at lw_m6 170 rfl) rfl
theorem q1456 : (Jvm.Cond.code ({ cls := "BenchBroker", name := "tenantOf", desc := "(I)I" } : Jvm.MethodName) prog_1_method_60_code (2 : Nat) (Option.some Jvm.ClassFile.FieldType.int)) ∈ lw_all := lw_g (lw_at lw_m6 171 rfl) rfl
theorem q1457 : (Jvm.Cond.methodLink "BenchBroker" (314 : Nat) ({ cls := "BenchBroker", name := "requireLetBench", desc := "(I)LBenchBroker$Bench;" } : Jvm.MethodName)) ∈ lw_all := lw_g (lw_at lw_m6 172 rfl) rfl
theorem q1458 : (Jvm.Cond.privateMethod ({ cls := "BenchBroker", name := "requireLetBench", desc := "(I)LBenchBroker$Bench;" } : Jvm.MethodName)) ∈ lw_tbl := lw_at lw_m6 173 rfl
theorem q1459 : (Jvm.Cond.instanceMethod ({ cls := "BenchBroker", name := "requireLetBench", desc := "(I)LBenchBroker$Bench;" } : Jvm.MethodName)) ∈ lw_all := lw_g (lw_at lw_m6 174 rfl) rfl
theorem q1460 : (Jvm.Cond.code ({ cls := "BenchBroker", name := "requireLetBench", desc := "(I)LBenchBroker$Bench;" } : Jvm.MethodName) prog_1_method_26_code (3 : Nat) (Option.some (Jvm.ClassFile.FieldType.object "BenchBroker$Bench"))) ∈ lw_all := lw_g (lw_at lw_m6 175 rfl) rfl
theorem q1461 : (Jvm.Cond.methodLink "BenchBroker" (321 : Nat) ({ cls := "BenchBroker$Tenant", name := "index", desc := "()I" } : Jvm.MethodName)) ∈ lw_all := lw_g (lw_at lw_m6 176 rfl) rfl
theorem q1466 : (Jvm.Cond.instanceMethod ({ cls := "BenchBroker", name := "depositOf", desc := "(I)I" } : Jvm.MethodName)) ∈ lw_all := lw_g (lw_at lw_m6 181 rfl) rfl
theorem q1467 : (Jvm.Cond.selects "BenchBroker" ({ cls := "BenchBroker", name := "depositOf", desc := "(I)I" } : Jvm.MethodName) ({ cls := "BenchBroker", name := "depositOf", desc := "(I)I" } : Jvm.MethodName)) ∈ lw_all := lw_g (lw_at lw_m6 182 rfl) rfl
theorem q1468 : (Jvm.Cond.code ({ cls := "BenchBroker", name := "depositOf", desc := "(I)I" } : Jvm.MethodName) prog_1_method_61_code (2 : Nat) (Option.some Jvm.ClassFile.FieldType.int)) ∈ lw_all := lw_g (lw_at lw_m6 183 rfl) rfl
theorem q1473 : (Jvm.Cond.instanceMethod ({ cls := "BenchBroker", name := "monthsLeft", desc := "(I)I" } : Jvm.MethodName)) ∈ lw_all := lw_g (lw_at lw_m6 188 rfl) rfl
theorem q1474 : (Jvm.Cond.selects "BenchBroker" ({ cls := "BenchBroker", name := "monthsLeft", desc := "(I)I" } : Jvm.MethodName) ({ cls := "BenchBroker", name := "monthsLeft", desc := "(I)I" } : Jvm.MethodName)) ∈ lw_all := lw_g (lw_at lw_m6 189 rfl) rfl
theorem q1475 : (Jvm.Cond.code ({ cls := "BenchBroker", name := "monthsLeft", desc := "(I)I" } : Jvm.MethodName) prog_1_method_62_code (2 : Nat) (Option.some Jvm.ClassFile.FieldType.int)) ∈ lw_all := lw_g (lw_at lw_m6 190 rfl) rfl
theorem q1480 : (Jvm.Cond.instanceMethod ({ cls := "BenchBroker", name := "defaultMonth", desc := "(I)I" } : Jvm.MethodName)) ∈ lw_all := lw_g (lw_at lw_m6 195 rfl) rfl
theorem q1481 : (Jvm.Cond.selects "BenchBroker" ({ cls := "BenchBroker", name := "defaultMonth", desc := "(I)I" } : Jvm.MethodName) ({ cls := "BenchBroker", name := "defaultMonth", desc := "(I)I" } : Jvm.MethodName)) ∈ lw_all := lw_g (lw_at lw_m6 196 rfl) rfl
theorem q1482 : (Jvm.Cond.code ({ cls := "BenchBroker", name := "defaultMonth", desc := "(I)I" } : Jvm.MethodName) prog_1_method_63_code (2 : Nat) (Option.some Jvm.ClassFile.FieldType.int)) ∈ lw_all := lw_g (lw_at lw_m6 197 rfl) rfl
theorem q1483 : (Jvm.Cond.methodLink "BenchBroker" (322 : Nat) ({ cls := "BenchBroker$Park", name := "defaultMonth", desc := "(LBenchBroker$Bench;)I" } : Jvm.MethodName)) ∈ lw_all := lw_g (lw_at lw_m6 198 rfl) rfl
theorem q1491 : (Jvm.Cond.instanceMethod ({ cls := "BenchBroker", name := "passMonths", desc := "(I)I" } : Jvm.MethodName)) ∈ lw_all := lw_g (lw_at lw_m6 206 rfl) rfl
theorem q1492 : (Jvm.Cond.selects "BenchBroker" ({ cls := "BenchBroker", name := "passMonths", desc := "(I)I" } : Jvm.MethodName) ({ cls := "BenchBroker", name := "passMonths", desc := "(I)I" } : Jvm.MethodName)) ∈ lw_all := lw_g (lw_at lw_m6 207 rfl) rfl
theorem q1493 : (Jvm.Cond.code ({ cls := "BenchBroker", name := "passMonths", desc := "(I)I" } : Jvm.MethodName) prog_1_method_64_code (2 : Nat) (Option.some Jvm.ClassFile.FieldType.int)) ∈ lw_all := lw_g (lw_at lw_m6 208 rfl) rfl
theorem q1498 : (Jvm.Cond.instanceMethod ({ cls := "BenchBroker", name := "incomeWithin", desc := "(I)I" } : Jvm.MethodName)) ∈ lw_all := lw_g (lw_at lw_m6 213 rfl) rfl
theorem q1499 : (Jvm.Cond.selects "BenchBroker" ({ cls := "BenchBroker", name := "incomeWithin", desc := "(I)I" } : Jvm.MethodName) ({ cls := "BenchBroker", name := "incomeWithin", desc := "(I)I" } : Jvm.MethodName)) ∈ lw_all := lw_g (lw_at lw_m6 214 rfl) rfl
theorem q1500 : (Jvm.Cond.code ({ cls := "BenchBroker", name := "incomeWithin", desc := "(I)I" } : Jvm.MethodName) prog_1_method_66_code (2 : Nat) (Option.some Jvm.ClassFile.FieldType.int)) ∈ lw_all := lw_g (lw_at lw_m6 215 rfl) rfl
theorem q1501 : (Jvm.Cond.methodLink "BenchBroker" (328 : Nat) ({ cls := "BenchBroker$Park", name := "incomeWithin", desc := "(I)I" } : Jvm.MethodName)) ∈ lw_all := lw_g (lw_at lw_m6 216 rfl) rfl
theorem q1506 : (Jvm.Cond.instanceMethod ({ cls := "BenchBroker", name := "incomeByLeases", desc := "(I)I" } : Jvm.MethodName)) ∈ lw_all := lw_g (lw_at lw_m6 221 rfl) rfl
theorem q1507 : (Jvm.Cond.selects "BenchBroker" ({ cls := "BenchBroker", name := "incomeByLeases", desc := "(I)I" } : Jvm.MethodName) ({ cls := "BenchBroker", name := "incomeByLeases", desc := "(I)I" } : Jvm.MethodName)) ∈ lw_all := lw_g (lw_at lw_m6 222 rfl) rfl
theorem q1508 : (Jvm.Cond.code ({ cls := "BenchBroker", name := "incomeByLeases", desc := "(I)I" } : Jvm.MethodName) prog_1_method_67_code (2 : Nat) (Option.some Jvm.ClassFile.FieldType.int)) ∈ lw_all := lw_g (lw_at lw_m6 223 rfl) rfl
theorem q1509 : (Jvm.Cond.methodLink "BenchBroker" (331 : Nat) ({ cls := "BenchBroker$Park", name := "incomeByLeases", desc := "(I)I" } : Jvm.MethodName)) ∈ lw_all := lw_g (lw_at lw_m6 224 rfl) rfl
theorem q1514 : (Jvm.Cond.instanceMethod ({ cls := "BenchBroker", name := "benchByRent", desc := "(I)I" } : Jvm.MethodName)) ∈ lw_all := lw_g (lw_at lw_m6 229 rfl) rfl
theorem q1515 : (Jvm.Cond.selects "BenchBroker" ({ cls := "BenchBroker", name := "benchByRent", desc := "(I)I" } : Jvm.MethodName) ({ cls := "BenchBroker", name := "benchByRent", desc := "(I)I" } : Jvm.MethodName)) ∈ lw_all := lw_g (lw_at lw_m6 230 rfl) rfl
theorem q1516 : (Jvm.Cond.code ({ cls := "BenchBroker", name := "benchByRent", desc := "(I)I" } : Jvm.MethodName) prog_1_method_75_code (2 : Nat) (Option.some Jvm.ClassFile.FieldType.int)) ∈ lw_all := lw_g (lw_at lw_m6 231 rfl) rfl
theorem q1517 : (Jvm.Cond.methodLink "BenchBroker" (355 : Nat) ({ cls := "BenchBroker$Park", name := "benchByRent", desc := "(I)I" } : Jvm.MethodName)) ∈ lw_all := lw_g (lw_at lw_m6 232 rfl) rfl
theorem q1525 : (Jvm.Cond.static ({ cls := "BenchBroker", name := "inOrder", desc := "(LBenchBroker$Register;LBenchBroker$Order;I)I" } : Jvm.MethodName)) ∈ lw_all := lw_g (lw_at lw_m7 0 rfl) rfl
theorem q1526 : (Jvm.Cond.code ({ cls := "BenchBroker", name := "inOrder", desc := "(LBenchBroker$Register;LBenchBroker$Order;I)I" } : Jvm.MethodName) prog_1_method_16_code (7 : Nat) (Option.some Jvm.ClassFile.FieldType.int)) ∈ lw_all := lw_g (lw_at lw_m7 1 rfl) rfl
theorem q1527 : (Jvm.Cond.interfaceEntry "BenchBroker" (40 : Nat)) ∈ lw_tbl := lw_at lw_m7 2 rfl
theorem q1528 : (Jvm.Cond.methodLink "BenchBroker" (40 : Nat) ({ cls := "BenchBroker$Order", name := "isBefore", desc := "(LBenchBroker$Item;LBenchBroker$Item;)Z" } : Jvm.MethodName)) ∈ lw_all := lw_g (lw_at lw_m7 3 rfl) rfl
theorem q1531 : (Jvm.Cond.methodLink "BenchBroker" (46 : Nat) ({ cls := "BenchBroker", name := "asInt", desc := "(Z)I" } : Jvm.MethodName)) ∈ lw_all := lw_g (lw_at lw_m7 6 rfl) rfl
theorem q1532 : (Jvm.Cond.methodLink "BenchBroker" (50 : Nat) ({ cls := "BenchBroker$Item", name := "index", desc := "()I" } : Jvm.MethodName)) ∈ lw_all := lw_g (lw_at lw_m7 7 rfl) rfl
theorem q1537 : (Jvm.Cond.instanceMethod ({ cls := "BenchBroker", name := "tenantByCoins", desc := "(I)I" } : Jvm.MethodName)) ∈ lw_all := lw_g (lw_at lw_m7 12 rfl) rfl
theorem q1538 : (Jvm.Cond.selects "BenchBroker" ({ cls := "BenchBroker", name := "tenantByCoins", desc := "(I)I" } : Jvm.MethodName) ({ cls := "BenchBroker", name := "tenantByCoins", desc := "(I)I" } : Jvm.MethodName)) ∈ lw_all := lw_g (lw_at lw_m7 13 rfl) rfl
theorem q1539 : (Jvm.Cond.code ({ cls := "BenchBroker", name := "tenantByCoins", desc := "(I)I" } : Jvm.MethodName) prog_1_method_76_code (2 : Nat) (Option.some Jvm.ClassFile.FieldType.int)) ∈ lw_all := lw_g (lw_at lw_m7 14 rfl) rfl
theorem q1540 : (Jvm.Cond.methodLink "BenchBroker" (358 : Nat) ({ cls := "BenchBroker$Park", name := "tenantByCoins", desc := "(I)I" } : Jvm.MethodName)) ∈ lw_all := lw_g (lw_at lw_m7 15 rfl) rfl
theorem q1564 : (Jvm.Cond.instanceMethod ({ cls := "BenchBroker", name := "meanRent", desc := "()D" } : Jvm.MethodName)) ∈ lw_all := lw_g (lw_at lw_m7 39 rfl) rfl
theorem q1565 : (Jvm.Cond.selects "BenchBroker" ({ cls := "BenchBroker", name := "meanRent", desc := "()D" } : Jvm.MethodName) ({ cls := "BenchBroker", name := "meanRent", desc := "()D" } : Jvm.MethodName)) ∈ lw_all := lw_g (lw_at lw_m7 40 rfl) rfl
theorem q1566 : (Jvm.Cond.code ({ cls := "BenchBroker", name := "meanRent", desc := "()D" } : Jvm.MethodName) prog_1_method_77_code (1 : Nat) (Option.some Jvm.ClassFile.FieldType.double)) ∈ lw_all := lw_g (lw_at lw_m7 41 rfl) rfl
theorem q1567 : (Jvm.Cond.methodLink "BenchBroker" (361 : Nat) ({ cls := "BenchBroker", name := "benchCount", desc := "()I" } : Jvm.MethodName)) ∈ lw_all := lw_g (lw_at lw_m7 42 rfl) rfl
theorem q1568 : (Jvm.Cond.methodLink "BenchBroker" (364 : Nat) ({ cls := "BenchBroker", name := "requireCount", desc := "(Z)V" } : Jvm.MethodName)) ∈ lw_all := lw_g (lw_at lw_m7 43 rfl) rfl
theorem q1569 : (Jvm.Cond.static ({ cls := "BenchBroker", name := "requireCount", desc := "(Z)V" } : Jvm.MethodName)) ∈ lw_all := lw_g (lw_at lw_m7 44 rfl) rfl
theorem q1570 : (Jvm.Cond.code ({ cls := "BenchBroker", name := "requireCount", desc := "(Z)V" } : Jvm.MethodName) prog_1_method_14_code (1 : Nat) (Option.none : Option Jvm.ClassFile.FieldType)) ∈ lw_all := lw_g (lw_at lw_m7 45 rfl) rfl
theorem q1571 : (Jvm.Cond.classLink "BenchBroker" (22 : Nat) "java/lang/ArithmeticException") ∈ lw_all := lw_g (lw_at lw_m7 46 rfl) rfl
theorem q1572 : (Jvm.Cond.methodLink "BenchBroker" (24 : Nat) ({ cls := "java/lang/ArithmeticException", name := "<init>", desc := "()V" } : Jvm.MethodName)) ∈ lw_all := lw_g (lw_at lw_m7 47 rfl) rfl
theorem q1576 : (Jvm.Cond.methodLink "BenchBroker" (367 : Nat) ({ cls := "BenchBroker$Park", name := "rentTotal", desc := "()I" } : Jvm.MethodName)) ∈ lw_all := lw_g (lw_at lw_m7 51 rfl) rfl
theorem q1587 : (Jvm.Cond.instanceMethod ({ cls := "BenchBroker", name := "letShare", desc := "()F" } : Jvm.MethodName)) ∈ lw_all := lw_g (lw_at lw_m7 62 rfl) rfl
theorem q1588 : (Jvm.Cond.selects "BenchBroker" ({ cls := "BenchBroker", name := "letShare", desc := "()F" } : Jvm.MethodName) ({ cls := "BenchBroker", name := "letShare", desc := "()F" } : Jvm.MethodName)) ∈ lw_all := lw_g (lw_at lw_m7 63 rfl) rfl
theorem q1589 : (Jvm.Cond.code ({ cls := "BenchBroker", name := "letShare", desc := "()F" } : Jvm.MethodName) prog_1_method_78_code (1 : Nat) (Option.some Jvm.ClassFile.FieldType.float)) ∈ lw_all := lw_g (lw_at lw_m7 64 rfl) rfl
theorem q1590 : (Jvm.Cond.methodLink "BenchBroker" (370 : Nat) ({ cls := "BenchBroker$Park", name := "letCount", desc := "()I" } : Jvm.MethodName)) ∈ lw_all := lw_g (lw_at lw_m7 65 rfl) rfl
theorem q1595 : (Jvm.Cond.instanceMethod ({ cls := "BenchBroker", name := "writeBench", desc := "(I)I" } : Jvm.MethodName)) ∈ lw_all := lw_g (lw_at lw_m7 70 rfl) rfl
theorem q1596 : (Jvm.Cond.selects "BenchBroker" ({ cls := "BenchBroker", name := "writeBench", desc := "(I)I" } : Jvm.MethodName) ({ cls := "BenchBroker", name := "writeBench", desc := "(I)I" } : Jvm.MethodName)) ∈ lw_all := lw_g (lw_at lw_m7 71 rfl) rfl
theorem q1597 : (Jvm.Cond.code ({ cls := "BenchBroker", name := "writeBench", desc := "(I)I" } : Jvm.MethodName) prog_1_method_80_code (4 : Nat) (Option.some Jvm.ClassFile.FieldType.int)) ∈ lw_all := lw_g (lw_at lw_m7 72 rfl) rfl
theorem q1598 : (Jvm.Cond.methodLink "BenchBroker" (376 : Nat) ({ cls := "java/lang/StringBuilder", name := "append", desc := "(I)Ljava/lang/StringBuilder;" } : Jvm.MethodName)) ∈ lw_all := lw_g (lw_at lw_m7 73 rfl) rfl
theorem q1671 : (Jvm.Cond.methodLink "BenchBroker" (380 : Nat) ({ cls := "java/lang/StringBuilder", name := "append", desc := "(C)Ljava/lang/StringBuilder;" } : Jvm.MethodName)) ∈ lw_all := lw_g (lw_at lw_m7 146 rfl) rfl
theorem q1710 : (Jvm.Cond.methodLink "BenchBroker" (383 : Nat) ({ cls := "BenchBroker$Park", name := "noiseOf", desc := "(LBenchBroker$Bench;)I" } : Jvm.MethodName)) ∈ lw_all := lw_g (lw_at lw_m7 185 rfl) rfl
theorem q1711 : (Jvm.Cond.methodLink "BenchBroker" (386 : Nat) ({ cls := "BenchBroker", name := "write", desc := "(Ljava/lang/StringBuilder;)I" } : Jvm.MethodName)) ∈ lw_all := lw_g (lw_at lw_m7 186 rfl) rfl
theorem q1712 : (Jvm.Cond.privateMethod ({ cls := "BenchBroker", name := "write", desc := "(Ljava/lang/StringBuilder;)I" } : Jvm.MethodName)) ∈ lw_tbl := lw_at lw_m7 187 rfl
theorem q1713 : (Jvm.Cond.instanceMethod ({ cls := "BenchBroker", name := "write", desc := "(Ljava/lang/StringBuilder;)I" } : Jvm.MethodName)) ∈ lw_all := lw_g (lw_at lw_m7 188 rfl) rfl
theorem q1714 : (Jvm.Cond.code ({ cls := "BenchBroker", name := "write", desc := "(Ljava/lang/StringBuilder;)I" } : Jvm.MethodName) prog_1_method_28_code (2 : Nat) (Option.some Jvm.ClassFile.FieldType.int)) ∈ lw_all := lw_g (lw_at lw_m7 189 rfl) rfl
theorem q1715 : (Jvm.Cond.methodLink "BenchBroker" (200 : Nat) ({ cls := "java/lang/StringBuilder", name := "toString", desc := "()Ljava/lang/String;" } : Jvm.MethodName)) ∈ lw_all := lw_g (lw_at lw_m7 190 rfl) rfl
theorem q1818 : (Jvm.Cond.methodLink "BenchBroker" (204 : Nat) ({ cls := "java/lang/String", name := "length", desc := "()I" } : Jvm.MethodName)) ∈ lw_all := lw_g (lw_at lw_m8 53 rfl) rfl
theorem q1823 : (Jvm.Cond.instanceMethod ({ cls := "BenchBroker", name := "writeRow", desc := "(I)I" } : Jvm.MethodName)) ∈ lw_all := lw_g (lw_at lw_m8 58 rfl) rfl
theorem q1824 : (Jvm.Cond.selects "BenchBroker" ({ cls := "BenchBroker", name := "writeRow", desc := "(I)I" } : Jvm.MethodName) ({ cls := "BenchBroker", name := "writeRow", desc := "(I)I" } : Jvm.MethodName)) ∈ lw_all := lw_g (lw_at lw_m8 59 rfl) rfl
theorem q1825 : (Jvm.Cond.code ({ cls := "BenchBroker", name := "writeRow", desc := "(I)I" } : Jvm.MethodName) prog_1_method_82_code (4 : Nat) (Option.some Jvm.ClassFile.FieldType.int)) ∈ lw_all := lw_g (lw_at lw_m8 60 rfl) rfl
theorem q1826 : (Jvm.Cond.methodLink "BenchBroker" (399 : Nat) ({ cls := "BenchBroker", name := "signAt", desc := "(II)C" } : Jvm.MethodName)) ∈ lw_all := lw_g (lw_at lw_m8 61 rfl) rfl
theorem q1827 : (Jvm.Cond.privateMethod ({ cls := "BenchBroker", name := "signAt", desc := "(II)C" } : Jvm.MethodName)) ∈ lw_tbl := lw_at lw_m8 62 rfl
theorem q1828 : (Jvm.Cond.instanceMethod ({ cls := "BenchBroker", name := "signAt", desc := "(II)C" } : Jvm.MethodName)) ∈ lw_all := lw_g (lw_at lw_m8 63 rfl) rfl
theorem q1829 : (Jvm.Cond.code ({ cls := "BenchBroker", name := "signAt", desc := "(II)C" } : Jvm.MethodName) prog_1_method_81_code (5 : Nat) (Option.some Jvm.ClassFile.FieldType.char)) ∈ lw_all := lw_g (lw_at lw_m8 64 rfl) rfl
theorem q1830 : (Jvm.Cond.methodLink "BenchBroker" (390 : Nat) ({ cls := "BenchBroker", name := "indexAt", desc := "(LBenchBroker$Register;II)I" } : Jvm.MethodName)) ∈ lw_all := lw_g (lw_at lw_m8 65 rfl) rfl
theorem q1831 : (Jvm.Cond.methodLink "BenchBroker" (394 : Nat) ({ cls := "BenchBroker$Bench", name := "sign", desc := "()C" } : Jvm.MethodName)) ∈ lw_all := lw_g (lw_at lw_m8 66 rfl) rfl
theorem q1836 : (Jvm.Cond.methodLink "BenchBroker" (398 : Nat) ({ cls := "BenchBroker$Fountain", name := "sign", desc := "()C" } : Jvm.MethodName)) ∈ lw_all := lw_g (lw_at lw_m8 71 rfl) rfl
theorem q1844 : (Jvm.Cond.instanceMethod ({ cls := "BenchBroker", name := "outputAt", desc := "(I)C" } : Jvm.MethodName)) ∈ lw_all := lw_g (lw_at lw_m8 79 rfl) rfl
theorem q1845 : (Jvm.Cond.selects "BenchBroker" ({ cls := "BenchBroker", name := "outputAt", desc := "(I)C" } : Jvm.MethodName) ({ cls := "BenchBroker", name := "outputAt", desc := "(I)C" } : Jvm.MethodName)) ∈ lw_all := lw_g (lw_at lw_m8 80 rfl) rfl
theorem q1846 : (Jvm.Cond.code ({ cls := "BenchBroker", name := "outputAt", desc := "(I)C" } : Jvm.MethodName) prog_1_method_83_code (2 : Nat) (Option.some Jvm.ClassFile.FieldType.char)) ∈ lw_all := lw_g (lw_at lw_m8 81 rfl) rfl
theorem q1847 : (Jvm.Cond.methodLink "BenchBroker" (403 : Nat) ({ cls := "java/lang/String", name := "charAt", desc := "(I)C" } : Jvm.MethodName)) ∈ lw_all := lw_g (lw_at lw_m8 82 rfl) rfl
theorem q1867 : (Jvm.Cond.instanceMethod ({ cls := "BenchBroker", name := "appendInput", desc := "(C)I" } : Jvm.MethodName)) ∈ lw_all := lw_g (lw_at lw_m8 102 rfl) rfl
theorem q1868 : (Jvm.Cond.selects "BenchBroker" ({ cls := "BenchBroker", name := "appendInput", desc := "(C)I" } : Jvm.MethodName) ({ cls := "BenchBroker", name := "appendInput", desc := "(C)I" } : Jvm.MethodName)) ∈ lw_all := lw_g (lw_at lw_m8 103 rfl) rfl
theorem q1869 : (Jvm.Cond.code ({ cls := "BenchBroker", name := "appendInput", desc := "(C)I" } : Jvm.MethodName) prog_1_method_84_code (2 : Nat) (Option.some Jvm.ClassFile.FieldType.int)) ∈ lw_all := lw_g (lw_at lw_m8 104 rfl) rfl
theorem q1870 : (Jvm.Cond.methodLink "BenchBroker" (407 : Nat) ({ cls := "java/lang/StringBuilder", name := "length", desc := "()I" } : Jvm.MethodName)) ∈ lw_all := lw_g (lw_at lw_m8 105 rfl) rfl
theorem q1871 : (Jvm.Cond.methodLink "BenchBroker" (408 : Nat) ({ cls := "BenchBroker", name := "requireState", desc := "(Z)V" } : Jvm.MethodName)) ∈ lw_all := lw_g (lw_at lw_m8 106 rfl) rfl
theorem q1872 : (Jvm.Cond.static ({ cls := "BenchBroker", name := "requireState", desc := "(Z)V" } : Jvm.MethodName)) ∈ lw_all := lw_g (lw_at lw_m8 107 rfl) rfl
theorem q1873 : (Jvm.Cond.code ({ cls := "BenchBroker", name := "requireState", desc := "(Z)V" } : Jvm.MethodName) prog_1_method_12_code (1 : Nat) (Option.none : Option Jvm.ClassFile.FieldType)) ∈ lw_all := lw_g (lw_at lw_m8 108 rfl) rfl
theorem q1874 : (Jvm.Cond.classLink "BenchBroker" (16 : Nat) "java/lang/IllegalStateException") ∈ lw_all := lw_g (lw_at lw_m8 109 rfl) rfl
theorem q1875 : (Jvm.Cond.methodLink "BenchBroker" (18 : Nat) ({ cls := "java/lang/IllegalStateException", name := "<init>", desc := "()V" } : Jvm.MethodName)) ∈ lw_all := lw_g (lw_at lw_m8 110 rfl) rfl
theorem q1883 : (Jvm.Cond.instanceMethod ({ cls := "BenchBroker", name := "execute", desc := "()I" } : Jvm.MethodName)) ∈ lw_all := lw_g (lw_at lw_m8 118 rfl) rfl
theorem q1884 : (Jvm.Cond.selects "BenchBroker" ({ cls := "BenchBroker", name := "execute", desc := "()I" } : Jvm.MethodName) ({ cls := "BenchBroker", name := "execute", desc := "()I" } : Jvm.MethodName)) ∈ lw_all := lw_g (lw_at lw_m8 119 rfl) rfl
theorem q1885 : (Jvm.Cond.codeWith ({ cls := "BenchBroker", name := "execute", desc := "()I" } : Jvm.MethodName) prog_1_method_85_code (4 : Nat) (Option.some Jvm.ClassFile.FieldType.int) [((23 : Nat), (46 : Nat), (47 : Nat), (427 : Nat)), ((23 : Nat), (46 : Nat), (61 : Nat), (433 : Nat)), ((23 : Nat), (46 : Nat), (70 : Nat), (25 : Nat))]) ∈ lw_all := lw_g (lw_at lw_m8 120 rfl) rfl
theorem q1886 : (Jvm.Cond.classLink "BenchBroker" (427 : Nat) "BenchBroker$SyntaxError") ∈ lw_all := lw_g (lw_at lw_m8 121 rfl) rfl
theorem q1887 : (Jvm.Cond.classLink "BenchBroker" (433 : Nat) "BenchBroker$BadCommand") ∈ lw_all := lw_g (lw_at lw_m8 122 rfl) rfl
theorem q1888 : (Jvm.Cond.classLink "BenchBroker" (411 : Nat) "BenchBroker$Parser") ∈ lw_all := lw_g (lw_at lw_m8 123 rfl) rfl
theorem q1890 : (Jvm.Cond.methodLink "BenchBroker" (413 : Nat) ({ cls := "BenchBroker$Parser", name := "<init>", desc := "(Ljava/lang/String;)V" } : Jvm.MethodName)) ∈ lw_all := lw_g (lw_at lw_m8 125 rfl) rfl
theorem q1906 : (Jvm.Cond.methodLink "BenchBroker" (416 : Nat) ({ cls := "java/lang/StringBuilder", name := "setLength", desc := "(I)V" } : Jvm.MethodName)) ∈ lw_all := lw_g (lw_at lw_m8 141 rfl) rfl
theorem q1958 : (Jvm.Cond.methodLink "BenchBroker" (420 : Nat) ({ cls := "BenchBroker$Parser", name := "parse", desc := "()Ljava/util/ArrayList;" } : Jvm.MethodName)) ∈ lw_all := lw_g (lw_at lw_m8 193 rfl) rfl
theorem q2000 : (Jvm.Cond.fieldLinkNest "BenchBroker" (435 : Nat) "BenchBroker$SyntaxError" "offset" "I" "BenchBroker") ∈ lw_tbl := lw_at lw_m8 235 rfl
theorem q2041 : (Jvm.Cond.methodLink "BenchBroker" (424 : Nat) ({ cls := "BenchBroker", name := "run", desc := "(Ljava/util/ArrayList;LBenchBroker$Park;)I" } : Jvm.MethodName)) ∈ lw_all := lw_g (lw_at lw_m9 36 rfl) rfl
theorem q2042 : (Jvm.Cond.static ({ cls := "BenchBroker", name := "run", desc := "(Ljava/util/ArrayList;LBenchBroker$Park;)I" } : Jvm.MethodName)) ∈ lw_all := lw_g (lw_at lw_m9 37 rfl) rfl
theorem q2043 : (Jvm.Cond.codeWith ({ cls := "BenchBroker", name := "run", desc := "(Ljava/util/ArrayList;LBenchBroker$Park;)I" } : Jvm.MethodName) prog_1_method_19_code (6 : Nat) (Option.some Jvm.ClassFile.FieldType.int) [((27 : Nat), (35 : Nat), (38 : Nat), (25 : Nat))]) ∈ lw_all := lw_g (lw_at lw_m9 38 rfl) rfl
theorem q2044 : (Jvm.Cond.methodLink "BenchBroker" (88 : Nat) ({ cls := "java/util/ArrayList", name := "iterator", desc := "()Ljava/util/Iterator;" } : Jvm.MethodName)) ∈ lw_all := lw_g (lw_at lw_m9 39 rfl) rfl
theorem q2067 : (Jvm.Cond.interfaceEntry "BenchBroker" (94 : Nat)) ∈ lw_tbl := lw_at lw_m9 62 rfl
theorem q2068 : (Jvm.Cond.methodLink "BenchBroker" (94 : Nat) ({ cls := "java/util/Iterator", name := "hasNext", desc := "()Z" } : Jvm.MethodName)) ∈ lw_all := lw_g (lw_at lw_m9 63 rfl) rfl
theorem q2077 : (Jvm.Cond.interfaceEntry "BenchBroker" (100 : Nat)) ∈ lw_tbl := lw_at lw_m9 72 rfl
theorem q2078 : (Jvm.Cond.methodLink "BenchBroker" (100 : Nat) ({ cls := "java/util/Iterator", name := "next", desc := "()Ljava/lang/Object;" } : Jvm.MethodName)) ∈ lw_all := lw_g (lw_at lw_m9 73 rfl) rfl
theorem q2092 : (Jvm.Cond.classLink "BenchBroker" (104 : Nat) "BenchBroker$Action") ∈ lw_all := lw_g (lw_at lw_m9 87 rfl) rfl
theorem q2093 : (Jvm.Cond.methodLink "BenchBroker" (106 : Nat) ({ cls := "BenchBroker$Action", name := "checkedRun", desc := "(LBenchBroker$Park;)I" } : Jvm.MethodName)) ∈ lw_all := lw_g (lw_at lw_m9 88 rfl) rfl
theorem q2138 : (Jvm.Cond.methodLink "BenchBroker" (113 : Nat) ({ cls := "BenchBroker$Rejection", name := "<init>", desc := "(III)V" } : Jvm.MethodName)) ∈ lw_all := lw_g (lw_at lw_m9 133 rfl) rfl
theorem q2143 : (Jvm.Cond.instanceMethod ({ cls := "BenchBroker", name := "syntaxErrorOffset", desc := "()I" } : Jvm.MethodName)) ∈ lw_all := lw_g (lw_at lw_m9 138 rfl) rfl
theorem q2144 : (Jvm.Cond.selects "BenchBroker" ({ cls := "BenchBroker", name := "syntaxErrorOffset", desc := "()I" } : Jvm.MethodName) ({ cls := "BenchBroker", name := "syntaxErrorOffset", desc := "()I" } : Jvm.MethodName)) ∈ lw_all := lw_g (lw_at lw_m9 139 rfl) rfl
theorem q2145 : (Jvm.Cond.code ({ cls := "BenchBroker", name := "syntaxErrorOffset", desc := "()I" } : Jvm.MethodName) prog_1_method_86_code (1 : Nat) (Option.some Jvm.ClassFile.FieldType.int)) ∈ lw_all := lw_g (lw_at lw_m9 140 rfl) rfl
theorem q2150 : (Jvm.Cond.instanceMethod ({ cls := "BenchBroker", name := "rejectionReason", desc := "()I" } : Jvm.MethodName)) ∈ lw_all := lw_g (lw_at lw_m9 145 rfl) rfl
theorem q2151 : (Jvm.Cond.selects "BenchBroker" ({ cls := "BenchBroker", name := "rejectionReason", desc := "()I" } : Jvm.MethodName) ({ cls := "BenchBroker", name := "rejectionReason", desc := "()I" } : Jvm.MethodName)) ∈ lw_all := lw_g (lw_at lw_m9 146 rfl) rfl
theorem q2152 : (Jvm.Cond.code ({ cls := "BenchBroker", name := "rejectionReason", desc := "()I" } : Jvm.MethodName) prog_1_method_87_code (1 : Nat) (Option.some Jvm.ClassFile.FieldType.int)) ∈ lw_all := lw_g (lw_at lw_m9 147 rfl) rfl
theorem q2157 : (Jvm.Cond.instanceMethod ({ cls := "BenchBroker", name := "rejectionDetail", desc := "()I" } : Jvm.MethodName)) ∈ lw_all := lw_g (lw_at lw_m9 152 rfl) rfl
theorem q2158 : (Jvm.Cond.selects "BenchBroker" ({ cls := "BenchBroker", name := "rejectionDetail", desc := "()I" } : Jvm.MethodName) ({ cls := "BenchBroker", name := "rejectionDetail", desc := "()I" } : Jvm.MethodName)) ∈ lw_all := lw_g (lw_at lw_m9 153 rfl) rfl
theorem q2159 : (Jvm.Cond.code ({ cls := "BenchBroker", name := "rejectionDetail", desc := "()I" } : Jvm.MethodName) prog_1_method_88_code (1 : Nat) (Option.some Jvm.ClassFile.FieldType.int)) ∈ lw_all := lw_g (lw_at lw_m9 154 rfl) rfl
theorem q2164 : (Jvm.Cond.instanceMethod ({ cls := "BenchBroker", name := "causeReason", desc := "()I" } : Jvm.MethodName)) ∈ lw_all := lw_g (lw_at lw_m9 159 rfl) rfl
theorem q2165 : (Jvm.Cond.selects "BenchBroker" ({ cls := "BenchBroker", name := "causeReason", desc := "()I" } : Jvm.MethodName) ({ cls := "BenchBroker", name := "causeReason", desc := "()I" } : Jvm.MethodName)) ∈ lw_all := lw_g (lw_at lw_m9 160 rfl) rfl
theorem q2166 : (Jvm.Cond.code ({ cls := "BenchBroker", name := "causeReason", desc := "()I" } : Jvm.MethodName) prog_1_method_89_code (1 : Nat) (Option.some Jvm.ClassFile.FieldType.int)) ∈ lw_all := lw_g (lw_at lw_m9 161 rfl) rfl
theorem q2171 : (Jvm.Cond.instanceMethod ({ cls := "BenchBroker", name := "undo", desc := "()I" } : Jvm.MethodName)) ∈ lw_all := lw_g (lw_at lw_m9 166 rfl) rfl
theorem q2172 : (Jvm.Cond.selects "BenchBroker" ({ cls := "BenchBroker", name := "undo", desc := "()I" } : Jvm.MethodName) ({ cls := "BenchBroker", name := "undo", desc := "()I" } : Jvm.MethodName)) ∈ lw_all := lw_g (lw_at lw_m9 167 rfl) rfl
theorem q2173 : (Jvm.Cond.code ({ cls := "BenchBroker", name := "undo", desc := "()I" } : Jvm.MethodName) prog_1_method_90_code (1 : Nat) (Option.some Jvm.ClassFile.FieldType.int)) ∈ lw_all := lw_g (lw_at lw_m9 168 rfl) rfl
theorem q2178 : (Jvm.Cond.instanceMethod ({ cls := "BenchBroker", name := "restoreSnapshot", desc := "()I" } : Jvm.MethodName)) ∈ lw_all := lw_g (lw_at lw_m9 173 rfl) rfl
theorem q2179 : (Jvm.Cond.selects "BenchBroker" ({ cls := "BenchBroker", name := "restoreSnapshot", desc := "()I" } : Jvm.MethodName) ({ cls := "BenchBroker", name := "restoreSnapshot", desc := "()I" } : Jvm.MethodName)) ∈ lw_all := lw_g (lw_at lw_m9 174 rfl) rfl
theorem q2180 : (Jvm.Cond.code ({ cls := "BenchBroker", name := "restoreSnapshot", desc := "()I" } : Jvm.MethodName) prog_1_method_92_code (1 : Nat) (Option.some Jvm.ClassFile.FieldType.int)) ∈ lw_all := lw_g (lw_at lw_m9 175 rfl) rfl
theorem q2181 : (Jvm.Cond.methodLink "BenchBroker" (447 : Nat) ({ cls := "java/util/ArrayList", name := "clear", desc := "()V" } : Jvm.MethodName)) ∈ lw_all := lw_g (lw_at lw_m9 176 rfl) rfl
theorem q2765 : (Jvm.Cond.castable "BenchBroker" "java/lang/Object") ∈ lw_tbl := lw_at lw_m12 40 rfl
theorem in_X1 : ∀ w ∈ wsX10, w ∈ lw_all := lw_in wsX10 [274, 276, 278, 280, 282, 284, 286] (by decide +kernel) (by decide +kernel)
